/-! arrays, calls and ends over the layer -/
section CAL
variable {p : Program} {l : Launch} {e : Env} {R : Room} {s : State} {m : MethodId} {args : Array Value} {below : List Frame} {meth : Method} {c : Code} {H : Heap} {locs : List Loc} {cells slots : Nat} {Q : State → Prop}
variable {cc : ByteArray} {pc nL : Nat} {ls : Array Slot} {rest : List Value} {G : pG} {ws ws0 : va_W} {own : String} {a ci N index : Nat} {fs : List Value} {Cn ref : String} {T : u_T}
theorem al_i (S : CallFix p m c cc nL s args lw_all own) (hW : pM G ws s H locs) {cA : ClassId} {n j : Nat} {f : Nat → Int32} (hm : (a, .inl (cA, n, .inl f)) ∈ ws) (t0 : Nat) (ht : (pT G)[t0]? = some (cA, .int)) {i : Int32} (hj : i = nI j) (hn : j < n) (hs : n ≤ 65536) (hdg : decode cc pc = .ok (.iaload, 1))
    (kk : W p l e R s m args below meth c H locs cells slots Q (F0 m (pc + 1) ls (.int (f j) :: rest))) : W p l e R s m args below meth c H locs cells slots Q (F0 m pc ls (.int i :: .ref a :: rest)) := by
  obtain ⟨q0, hq⟩ := List.getElem?_of_mem hm
  subst hj
  refine va_iald S.1 S.2.1 hW.1 hW.2.1 q0 t0 hq ht (vp_in_nI hn (by omega)) hdg ?_
  rw [nI_clamp (by omega)]
  exact kk
theorem al_b (S : CallFix p m c cc nL s args lw_all own) (hW : pM G ws s H locs) {cA : ClassId} {n j : Nat} {f : Nat → Int32} (hm : (a, .inl (cA, n, .inl f)) ∈ ws) (t0 : Nat) (ht : (pT G)[t0]? = some (cA, .byte)) {i : Int32} (hj : i = nI j) (hn : j < n) (hs : n ≤ 65536) (hdg : decode cc pc = .ok (.baload, 1))
    (kk : W p l e R s m args below meth c H locs cells slots Q (F0 m (pc + 1) ls (.int (f j) :: rest))) : W p l e R s m args below meth c H locs cells slots Q (F0 m pc ls (.int i :: .ref a :: rest)) := by
  obtain ⟨q0, hq⟩ := List.getElem?_of_mem hm
  subst hj
  refine va_bald S.1 S.2.1 hW.1 hW.2.1 q0 t0 hq ht (vp_in_nI hn (by omega)) hdg ?_
  rw [nI_clamp (by omega)]
  exact kk
theorem al_c (S : CallFix p m c cc nL s args lw_all own) (hW : pM G ws s H locs) {cA : ClassId} {n j : Nat} {f : Nat → Int32} (hm : (a, .inl (cA, n, .inl f)) ∈ ws) (t0 : Nat) (ht : (pT G)[t0]? = some (cA, .char)) {i : Int32} (hj : i = nI j) (hn : j < n) (hs : n ≤ 65536) (hdg : decode cc pc = .ok (.caload, 1))
    (kk : W p l e R s m args below meth c H locs cells slots Q (F0 m (pc + 1) ls (.int (f j) :: rest))) : W p l e R s m args below meth c H locs cells slots Q (F0 m pc ls (.int i :: .ref a :: rest)) := by
  obtain ⟨q0, hq⟩ := List.getElem?_of_mem hm
  subst hj
  refine va_cald S.1 S.2.1 hW.1 hW.2.1 q0 t0 hq ht (vp_in_nI hn (by omega)) hdg ?_
  rw [nI_clamp (by omega)]
  exact kk
theorem al_l (S : CallFix p m c cc nL s args lw_all own) (hW : pM G ws s H locs) {cA : ClassId} {n j : Nat} {f : Nat → Int64} (hm : (a, .inl (cA, n, .inr (.inl f))) ∈ ws) (t0 : Nat) (ht : (pT G)[t0]? = some (cA, .long)) {i : Int32} (hj : i = nI j) (hn : j < n) (hs : n ≤ 65536) (hdg : decode cc pc = .ok (.laload, 1))
    (kk : W p l e R s m args below meth c H locs cells slots Q (F0 m (pc + 1) ls (.long (f j) :: rest))) : W p l e R s m args below meth c H locs cells slots Q (F0 m pc ls (.int i :: .ref a :: rest)) := by
  obtain ⟨q0, hq⟩ := List.getElem?_of_mem hm
  subst hj
  refine va_lald S.1 S.2.1 hW.1 hW.2.1 q0 t0 hq ht (vp_in_nI hn (by omega)) hdg ?_
  rw [nI_clamp (by omega)]
  exact kk
theorem al_q (S : CallFix p m c cc nL s args lw_all own) (hW : pM G ws s H locs) {cA : ClassId} {n j : Nat} {f : Nat → Option Nat} (hm : (a, .inl (cA, n, .inr (.inr (.inr (.inr f))))) ∈ ws) (t0 : Nat) {C0 : String} (ht : (pT G)[t0]? = some (cA, .object C0)) {i : Int32} (hj : i = nI j) (hn : j < n) (hs : n ≤ 65536) {r : Option Nat} (hr : f j = r) (hdg : decode cc pc = .ok (.aaload, 1))
    (kk : W p l e R s m args below meth c H locs cells slots Q (F0 m (pc + 1) ls (va_rf r :: rest))) : W p l e R s m args below meth c H locs cells slots Q (F0 m pc ls (.int i :: .ref a :: rest)) := by
  obtain ⟨q0, hq⟩ := List.getElem?_of_mem hm
  subst hj
  refine va_aldq S.1 S.2.1 hW.1 hW.2.1 q0 t0 hq ht (vp_in_nI hn (by omega)) hdg ?_
  rw [nI_clamp (by omega), hr]
  exact kk
theorem al_r (S : CallFix p m c cc nL s args lw_all own) (hW : pM G ws s H locs) {cA : ClassId} {n j : Nat} {f : Nat → Option Nat} (hm : (a, .inl (cA, n, .inr (.inr (.inr (.inr f))))) ∈ ws) (t0 : Nat) {C0 : String} (ht : (pT G)[t0]? = some (cA, .object C0)) {i : Int32} (hj : i = nI j) (hn : j < n) (hs : n ≤ 65536) {r : Nat} (hr : f j = some r) (hdg : decode cc pc = .ok (.aaload, 1))
    (kk : W p l e R s m args below meth c H locs cells slots Q (F0 m (pc + 1) ls (.ref r :: rest))) : W p l e R s m args below meth c H locs cells slots Q (F0 m pc ls (.int i :: .ref a :: rest)) := al_q S hW hm t0 ht hj hn hs hr hdg kk
theorem al_n (S : CallFix p m c cc nL s args lw_all own) (hW : pM G ws s H locs) {cA : ClassId} {x : vp_A} (hm : (a, .inl (cA, x)) ∈ ws) (t0 : Nat) {ty : FieldType} (ht : (pT G)[t0]? = some (cA, ty)) {v : Int32} (hv : nI x.1 = v) (hdg : decode cc pc = .ok (.arraylength, 1))
    (kk : W p l e R s m args below meth c H locs cells slots Q (F0 m (pc + 1) ls (.int v :: rest))) : W p l e R s m args below meth c H locs cells slots Q (F0 m pc ls (.ref a :: rest)) := by
  obtain ⟨q0, hq⟩ := List.getElem?_of_mem hm
  exact va_alen S.1 S.2.1 hW.1 hW.2.1 q0 t0 hq ht hv hdg kk
theorem as_i (S : CallFix p m c cc nL s args lw_all own) (hW : pM G ws s H locs) (q0 : Nat) {cA : ClassId} {n j : Nat} {f : Nat → Int32} (he : ws[q0]? = some (a, .inl (cA, n, .inl f))) (t0 : Nat) (ht : (pT G)[t0]? = some (cA, .int)) {i : Int32} {x : Int32} (hj : i = nI j) (hn : j < n) (hs : n ≤ 65536) (hdg : decode cc pc = .ok (.iastore, 1))
    (kk : ∀ (H1 : Heap) (locs1 : List Loc), pM G (ws.set q0 (a, .inl (cA, n, .inl (va_up f j x)))) s H1 locs1 → W p l e R s m args below meth c H1 locs1 cells slots Q (F0 m (pc + 1) ls rest)) : W p l e R s m args below meth c H locs cells slots Q (F0 m pc ls (.int x :: .int i :: .ref a :: rest)) := by
  subst hj
  refine va_iast S.1 S.2.1 hW.1 hW.2.1 hW.2.2.1 hW.2.2.2.1 q0 t0 he ht (vp_in_nI hn (by omega)) hdg (fun H1 locs1 h1 h2 h3 => ?_)
  rw [nI_clamp (by omega)] at h1 h2
  exact kk H1 locs1 ⟨hW.1, h1, h2, h3, hW.2.2.2.2⟩
theorem as_b (S : CallFix p m c cc nL s args lw_all own) (hW : pM G ws s H locs) (q0 : Nat) {cA : ClassId} {n j : Nat} {f : Nat → Int32} (he : ws[q0]? = some (a, .inl (cA, n, .inl f))) (t0 : Nat) (ht : (pT G)[t0]? = some (cA, .byte)) {i : Int32} {x : Int32} (hj : i = nI j) (hn : j < n) (hs : n ≤ 65536) (hdg : decode cc pc = .ok (.bastore, 1))
    (kk : ∀ (H1 : Heap) (locs1 : List Loc), pM G (ws.set q0 (a, .inl (cA, n, .inl (va_up f j (vp_nar .byte x))))) s H1 locs1 → W p l e R s m args below meth c H1 locs1 cells slots Q (F0 m (pc + 1) ls rest)) : W p l e R s m args below meth c H locs cells slots Q (F0 m pc ls (.int x :: .int i :: .ref a :: rest)) := by
  subst hj
  refine va_bast S.1 S.2.1 hW.1 hW.2.1 hW.2.2.1 hW.2.2.2.1 q0 t0 he ht (vp_in_nI hn (by omega)) hdg (fun H1 locs1 h1 h2 h3 => ?_)
  rw [nI_clamp (by omega)] at h1 h2
  exact kk H1 locs1 ⟨hW.1, h1, h2, h3, hW.2.2.2.2⟩
theorem as_c (S : CallFix p m c cc nL s args lw_all own) (hW : pM G ws s H locs) (q0 : Nat) {cA : ClassId} {n j : Nat} {f : Nat → Int32} (he : ws[q0]? = some (a, .inl (cA, n, .inl f))) (t0 : Nat) (ht : (pT G)[t0]? = some (cA, .char)) {i : Int32} {x : Int32} (hj : i = nI j) (hn : j < n) (hs : n ≤ 65536) (hdg : decode cc pc = .ok (.castore, 1))
    (kk : ∀ (H1 : Heap) (locs1 : List Loc), pM G (ws.set q0 (a, .inl (cA, n, .inl (va_up f j (vp_nar .char x))))) s H1 locs1 → W p l e R s m args below meth c H1 locs1 cells slots Q (F0 m (pc + 1) ls rest)) : W p l e R s m args below meth c H locs cells slots Q (F0 m pc ls (.int x :: .int i :: .ref a :: rest)) := by
  subst hj
  refine va_cast S.1 S.2.1 hW.1 hW.2.1 hW.2.2.1 hW.2.2.2.1 q0 t0 he ht (vp_in_nI hn (by omega)) hdg (fun H1 locs1 h1 h2 h3 => ?_)
  rw [nI_clamp (by omega)] at h1 h2
  exact kk H1 locs1 ⟨hW.1, h1, h2, h3, hW.2.2.2.2⟩
theorem as_l (S : CallFix p m c cc nL s args lw_all own) (hW : pM G ws s H locs) (q0 : Nat) {cA : ClassId} {n j : Nat} {f : Nat → Int64} (he : ws[q0]? = some (a, .inl (cA, n, .inr (.inl f)))) (t0 : Nat) (ht : (pT G)[t0]? = some (cA, .long)) {i : Int32} {x : Int64} (hj : i = nI j) (hn : j < n) (hs : n ≤ 65536) (hdg : decode cc pc = .ok (.lastore, 1))
    (kk : ∀ (H1 : Heap) (locs1 : List Loc), pM G (ws.set q0 (a, .inl (cA, n, .inr (.inl (va_up f j x))))) s H1 locs1 → W p l e R s m args below meth c H1 locs1 cells slots Q (F0 m (pc + 1) ls rest)) : W p l e R s m args below meth c H locs cells slots Q (F0 m pc ls (.long x :: .int i :: .ref a :: rest)) := by
  subst hj
  refine va_last S.1 S.2.1 hW.1 hW.2.1 hW.2.2.1 hW.2.2.2.1 q0 t0 he ht (vp_in_nI hn (by omega)) hdg (fun H1 locs1 h1 h2 h3 => ?_)
  rw [nI_clamp (by omega)] at h1 h2
  exact kk H1 locs1 ⟨hW.1, h1, h2, h3, hW.2.2.2.2⟩
theorem as_r (S : CallFix p m c cc nL s args lw_all own) (hW : pM G ws s H locs) (q0 : Nat) {cA : ClassId} {n j v ci : Nat} {vs : List Value} {f : Nat → Option Nat} {r : vw_C} (he : ws[q0]? = some (a, .inl (cA, n, .inr (.inr (.inr (.inr f)))))) (t0 : Nat) (ht : (pT G)[t0]? = some (cA, .object r.1)) (hv : (v, .inr (ci, vs)) ∈ ws) (hc : vwCl[ci]? = some r) {i : Int32} (hj : i = nI j) (hn : j < n) (hs : n ≤ 65536) (hdg : decode cc pc = .ok (.aastore, 1))
    (kk : ∀ (H1 : Heap) (locs1 : List Loc), pM G (ws.set q0 (a, .inl (cA, n, .inr (.inr (.inr (.inr (va_up f j (some v)))))))) s H1 locs1 → W p l e R s m args below meth c H1 locs1 cells slots Q (F0 m (pc + 1) ls rest)) : W p l e R s m args below meth c H locs cells slots Q (F0 m pc ls (.ref v :: .int i :: .ref a :: rest)) := by
  subst hj
  obtain ⟨qk, hk⟩ := List.getElem?_of_mem hv
  refine va_astq S.1 S.2.1 hW.1 hW.2.1 hW.2.2.1 hW.2.2.2.1 q0 t0 qk ci he ht hk hc (vp_in_nI hn (by omega)) hdg (fun H1 locs1 h1 h2 h3 => ?_)
  rw [nI_clamp (by omega)] at h1 h2
  exact kk H1 locs1 ⟨hW.1, h1, h2, h3, hW.2.2.2.2⟩
theorem as_n (S : CallFix p m c cc nL s args lw_all own) (hW : pM G ws s H locs) (q0 : Nat) {cA : ClassId} {n j : Nat} {f : Nat → Option Nat} (he : ws[q0]? = some (a, .inl (cA, n, .inr (.inr (.inr (.inr f)))))) (t0 : Nat) {C0 : String} (ht : (pT G)[t0]? = some (cA, .object C0)) {i : Int32} (hj : i = nI j) (hn : j < n) (hs : n ≤ 65536) (hdg : decode cc pc = .ok (.aastore, 1))
    (kk : ∀ (H1 : Heap) (locs1 : List Loc), pM G (ws.set q0 (a, .inl (cA, n, .inr (.inr (.inr (.inr (va_up f j none))))))) s H1 locs1 → W p l e R s m args below meth c H1 locs1 cells slots Q (F0 m (pc + 1) ls rest)) : W p l e R s m args below meth c H locs cells slots Q (F0 m pc ls (.null :: .int i :: .ref a :: rest)) := by
  subst hj
  refine va_astqN S.1 S.2.1 hW.1 hW.2.1 hW.2.2.1 hW.2.2.2.1 q0 t0 he ht (vp_in_nI hn (by omega)) hdg (fun H1 locs1 h1 h2 h3 => ?_)
  rw [nI_clamp (by omega)] at h1 h2
  exact kk H1 locs1 ⟨hW.1, h1, h2, h3, hW.2.2.2.2⟩
/-- a thing of a class below the array's own -/
theorem as_s (S : CallFix p m c cc nL s args lw_all own) (hW : pM G ws s H locs) (q0 : Nat) {cA : ClassId} {n j v ci : Nat} {vs : List Value} {f : Nat → Option Nat} {r : vw_C} {E : String} (he : ws[q0]? = some (a, .inl (cA, n, .inr (.inr (.inr (.inr f)))))) (t0 : Nat) (ht : (pT G)[t0]? = some (cA, .object E)) (hv : (v, .inr (ci, vs)) ∈ ws) (hc : vwCl[ci]? = some r) (hca : Cond.castable r.1 E ∈ pNst) {i : Int32} (hj : i = nI j) (hn : j < n) (hs : n ≤ 65536) (hdg : decode cc pc = .ok (.aastore, 1))
    (kk : ∀ (H1 : Heap) (locs1 : List Loc), pM G (ws.set q0 (a, .inl (cA, n, .inr (.inr (.inr (.inr (va_up f j (some v)))))))) s H1 locs1 → W p l e R s m args below meth c H1 locs1 cells slots Q (F0 m (pc + 1) ls rest)) : W p l e R s m args below meth c H locs cells slots Q (F0 m pc ls (.ref v :: .int i :: .ref a :: rest)) := by
  subst hj
  obtain ⟨qk, hk⟩ := List.getElem?_of_mem hv
  have hany : va_Any E s H v := va_rAny hW.1 hW.2.1 hk hc (fun comp c0 h1 h2 => by
    obtain ⟨c1, t1, f1, f2, f3⟩ := Cond.castable_spec (va_Nw.use (A := args) rfl (hW.2.2.2.2.2.1 _ hca))
    rw [f1] at h2
    rw [f2] at h1
    cases h1
    cases h2
    exact f3)
  refine va_astqM S.1 S.2.1 hW.1 hW.2.1 hW.2.2.1 hW.2.2.2.1 q0 t0 he ht hany (vp_in_nI hn (by omega)) hdg (fun H1 locs1 h1 h2 h3 => ?_)
  rw [nI_clamp (by omega)] at h1 h2
  exact kk H1 locs1 ⟨hW.1, h1, h2, h3, hW.2.2.2.2⟩
theorem RA_one {U : State} {cA cB : ClassId} {ty : FieldType} (h1 : va_RA U cA ty) (h2 : va_RA U cB ty) : cA = cB := by
  cases ty with
  | object C0 =>
    obtain ⟨_, _, _, _, _, h4⟩ := h1
    obtain ⟨_, _, _, _, _, h8⟩ := h2
    exact Option.some.inj (h4.symm.trans h8)
  | _ => exact Option.some.inj (h1.symm.trans h2)
theorem K_one {D : va_G} {cl : List vw_C} {tys : List (ClassId × FieldType)} {cA cB : ClassId} {ty : FieldType} (t0 : Nat) (h : va_K D cl tys s) (ht : tys[t0]? = some (cB, ty)) (h9 : va_K D cl (tys ++ [(cA, ty)]) s) : cA = cB :=
  RA_one (h9.2 tys.length (cA, ty) (by simp)).2 (h.2 t0 _ ht).2
/-- a new array of numbers -/
theorem na (S : CallFix p m c cc nL s args lw_all own) (hW : pM G ws s H locs) {atype : ArrayType} (harr : Cond.arrayClass (newarray.typeOf atype) ∈ lw_all) {ty : FieldType} (hty : newarray.typeOf atype = ty) (t0 : Nat) {cA : ClassId} (ht : (pT G)[t0]? = some (cA, ty)) {n : Int32} {N' : Nat} {a0 : vp_A} (ha : ∀ cA : ClassId, vp_cell cA a0 = arrV cA N' (fun _ => defaultValue ty)) (hn : n = nI N') (hN : N' ≤ 65536) (hcb : componentBytes ty ≤ 8) (hcells : cells + 1 ≤ R.cells) (hslots : slots + N' ≤ R.slots) (hdg : decode cc pc = .ok (.newarray atype, 2))
    (kk : ∀ (q : Nat) (H1 : Heap), pM G (ws ++ [(q, .inl (cA, a0))]) s H1 locs → W p l e R s m args below meth c H1 locs (cells + 1) (slots + N') Q (F0 m (pc + 2) ls (.ref q :: rest))) : W p l e R s m args below meth c H locs cells slots Q (F0 m pc ls (.int n :: rest)) := by
  subst hn
  refine va_newa S.1 S.2.1 (S.2.2.2.2 _ harr) hty hW.1 hW.2.1 hW.2.2.1 hW.2.2.2.1 hW.new ha (nI_pos (by omega)) (nI_clamp (by omega)) ?_ hcells hslots hdg (fun q cB H1 h0 h1 h2 h3 => ?_)
  · have := Nat.mul_le_mul hN hcb
    omega
  · have hc := K_one t0 hW.1 ht h0
    subst hc
    exact kk q H1 ⟨hW.1, h1, h2, h3, hW.2.2.2.2⟩
theorem nq (S : CallFix p m c cc nL s args lw_all own) (hW : pM G ws s H locs) {C0 : String} (hcl : Cond.classLink own index C0 ∈ lw_all) (hov : C0 ∈ pOc) (t0 : Nat) {cA : ClassId} (ht : (pT G)[t0]? = some (cA, .object C0)) {n : Int32} {N' : Nat} (hn : n = nI N') (hN : N' ≤ 65536) (hcells : cells + 1 ≤ R.cells) (hslots : slots + N' ≤ R.slots) (hdg : decode cc pc = .ok (.anewarray index, 3))
    (kk : ∀ (q : Nat) (H1 : Heap), pM G (ws ++ [(q, .inl (cA, N', .inr (.inr (.inr (.inr (fun _ => none))))))]) s H1 locs → W p l e R s m args below meth c H1 locs (cells + 1) (slots + N') Q (F0 m (pc + 3) ls (.ref q :: rest))) : W p l e R s m args below meth c H locs cells slots Q (F0 m pc ls (.int n :: rest)) := by
  subst hn
  refine va_newq S.1 S.2.1 S.2.2.2.1 (S.2.2.2.2 _ hcl) (hW.2.2.2.2.2.2.1 _ hov) hW.1 hW.2.1 hW.2.2.1 hW.2.2.2.1 hW.new (nI_pos (by omega)) (nI_clamp (by omega)) (by omega) hcells hslots hdg (fun q cB H1 h0 h1 h2 h3 => ?_)
  have hc := K_one t0 hW.1 ht h0
  subst hc
  exact kk q H1 ⟨hW.1, h1, h2, h3, hW.2.2.2.2⟩
theorem gs (S : CallFix p m c cc nL s args lw_all own) (hW : pM G ws s H locs) {C0 n d : String} {v : Value} (hZ : va_Z C0 n d v (pA G) s s.heap) (hl : Cond.fieldLink own index C0 n d ∈ lw_all) (hdg : decode cc pc = .ok (.getstatic index, 3))
    (kk : W p l e R s m args below meth c H locs cells slots Q (F0 m (pc + 3) ls (v :: rest))) : W p l e R s m args below meth c H locs cells slots Q (F0 m pc ls rest) :=
  va_gets S.1 S.2.1 hZ hW.2.2.2.1 S.2.2.2.1 (S.2.2.2.2 _ hl) (fun _ h => h) hdg kk
variable {y : MethodName} {bytes : ByteArray} {maxL mc ms n : Nat} {ret : Option FieldType} {wl : List Cond} {rm : Room} {Pc : Array Value → State → Prop} {Qc : Array Value → State → Outcome → State → Prop} {free : Addr → Prop} {b : Nat} {As : List Value} {g : JFrame} {st0 : List Value} {ar : Array Value}
theorem rcv (hW : pM G ws s H locs) {r : vw_C} (hm : (b, .inr (ci, fs)) ∈ ws) (hc : vwCl[ci]? = some r) : ∃ cell : Cell, H[b]? = some cell ∧ cell.vm.isStatics = false ∧ s.vm.findClass r.1 = some cell.cls := by
  obtain ⟨q0, hq⟩ := List.getElem?_of_mem hm
  exact va_recv hW.1 hW.2.1 hc hq
theorem ru_V (S : CallFix p m c cc nL s args lw_all own) (hM : Met l y wl rm (va_Pc (.ref b :: As) (fun U => pW G ws U)) Qc mc ms free) (cw : CallW R s args own Cn index y bytes maxL ret wl rm mc ms n) (hW : pM G ws s H locs) (hm : (b, .inr (ci, fs)) ∈ ws) (hc : vwCl[ci]? = some (Cn, T, N))
    (hg : g.method = m) (hn : As.length = n) (hsize : g.locals.size = nL) (hstack : g.stack = As.reverse ++ .ref b :: rest) (hR : 2 * g.monitorRoom + (rest.map fun v => v.category).sum ≤ 8) (hdg : decode cc g.pc = .ok (.invokevirtual index, 3)) (hf : cells + mc ≤ R.cells ∧ slots + ms ≤ R.slots) :
    va_Run p l e R s m args below meth c H locs cells slots mc ms g rest (Qc (Value.ref b :: As).toArray) free :=
  va_runV S hM cw ⟨pBlind, rcv hW hm hc, fun U hU hw => ⟨rfl, hW.toW hU hw⟩⟩ hg hn hsize hstack hR hdg hf
theorem ru_S (S : CallFix p m c cc nL s args lw_all own) (hM : Met l y wl rm (va_Pc As (fun U => pW G ws U)) Qc mc ms free) (cw : CallB R s args own index y bytes maxL ret wl rm mc ms n ∧ (Cond.static y).before args s = true) (hW : pM G ws s H locs)
    (hg : g.method = m) (hn : As.length = n) (hsize : g.locals.size = nL) (hstack : g.stack = As.reverse ++ rest) (hR : 2 * g.monitorRoom + (rest.map fun v => v.category).sum ≤ 8) (hdg : decode cc g.pc = .ok (.invokestatic index, 3)) (hf : cells + mc ≤ R.cells ∧ slots + ms ≤ R.slots) :
    va_Run p l e R s m args below meth c H locs cells slots mc ms g rest (Qc As.toArray) free :=
  va_runS S hM cw ⟨pBlind, fun U hU hw => ⟨rfl, hW.toW hU hw⟩⟩ hg hn hsize hstack hR hdg hf
theorem ru_I (S : CallFix p m c cc nL s args lw_all own) (hM : Met l y wl rm (va_Pc (.ref b :: As) (fun U => pW G ws U)) Qc mc ms free) (cw : CallB R s args own index y bytes maxL none wl rm mc ms n ∧ y.name = "<init>" ∧ (Cond.instanceMethod y).before args s = true) (hW : pM G ws s H locs)
    (hg : g.method = m) (hn : As.length = n) (hsize : g.locals.size = nL) (hstack : g.stack = As.reverse ++ .ref b :: rest) (hR : 2 * g.monitorRoom + (rest.map fun v => v.category).sum ≤ 8) (hdg : decode cc g.pc = .ok (.invokespecial index, 3)) (hf : cells + mc ≤ R.cells ∧ slots + ms ≤ R.slots) :
    va_Run p l e R s m args below meth c H locs cells slots mc ms g rest (Qc (Value.ref b :: As).toArray) free :=
  va_runI S hM cw ⟨pBlind, fun U hU hw => ⟨rfl, hW.toW hU hw⟩⟩ hg hn hsize hstack hR hdg hf
theorem cl_i {S : Type} {post : Int32 → S → Prop} {wf : S → va_W} (hr : va_Run p l e R s m args below meth c H locs cells slots mc ms (F0 m pc ls st0) rest (va_Qi post (fun u t => pW G (wf u) t) (pA G) ar) (pA G)) (hW : pM G ws s H locs)
    (kk : ∀ (r : Int32) (u : S) (H1 : Heap) (locs1 : List Loc), post r u → pM G (wf u) s H1 locs1 → W p l e R s m args below meth c H1 locs1 (cells + mc) (slots + ms) Q (F0 m (pc + 3) ls (.int r :: rest))) : W p l e R s m args below meth c H locs cells slots Q (F0 m pc ls st0) :=
  va_calli hr hW.2.2.2.1 (fun _ _ h => h) (fun _ h => h) (fun r u t H1 locs1 ht _ hp hB _ _ hS => kk r u H1 locs1 hp (hW.back ht hB hS))
theorem cl_l {S : Type} {post : Int64 → S → Prop} {wf : S → va_W} (hr : va_Run p l e R s m args below meth c H locs cells slots mc ms (F0 m pc ls st0) rest (va_Ql post (fun u t => pW G (wf u) t) (pA G) ar) (pA G)) (hW : pM G ws s H locs)
    (kk : ∀ (r : Int64) (u : S) (H1 : Heap) (locs1 : List Loc), post r u → pM G (wf u) s H1 locs1 → W p l e R s m args below meth c H1 locs1 (cells + mc) (slots + ms) Q (F0 m (pc + 3) ls (.long r :: rest))) : W p l e R s m args below meth c H locs cells slots Q (F0 m pc ls st0) :=
  va_calll hr hW.2.2.2.1 (fun _ _ h => h) (fun _ h => h) (fun r u t H1 locs1 ht _ hp hB _ _ hS => kk r u H1 locs1 hp (hW.back ht hB hS))
theorem cl_q {S : Type} {post : Option Nat → S → Prop} {wf : S → va_W} (hr : va_Run p l e R s m args below meth c H locs cells slots mc ms (F0 m pc ls st0) rest (va_Qq post (fun u t => pW G (wf u) t) (pA G) ar) (pA G)) (hW : pM G ws s H locs)
    (kk : ∀ (r : Option Nat) (u : S) (H1 : Heap) (locs1 : List Loc), post r u → pM G (wf u) s H1 locs1 → W p l e R s m args below meth c H1 locs1 (cells + mc) (slots + ms) Q (F0 m (pc + 3) ls (va_rf r :: rest))) : W p l e R s m args below meth c H locs cells slots Q (F0 m pc ls st0) :=
  va_callq hr hW.2.2.2.1 (fun _ _ h => h) (fun _ h => h) (fun r u t H1 locs1 ht _ hp hB _ _ hS => kk r u H1 locs1 hp (hW.back ht hB hS))
theorem cl_v {S : Type} {post : S → Prop} {wf : S → va_W} (hr : va_Run p l e R s m args below meth c H locs cells slots mc ms (F0 m pc ls st0) rest (va_Qv post (fun u t => pW G (wf u) t) (pA G) ar) (pA G)) (hW : pM G ws s H locs)
    (kk : ∀ (u : S) (H1 : Heap) (locs1 : List Loc), post u → pM G (wf u) s H1 locs1 → W p l e R s m args below meth c H1 locs1 (cells + mc) (slots + ms) Q (F0 m (pc + 3) ls rest)) : W p l e R s m args below meth c H locs cells slots Q (F0 m pc ls st0) :=
  va_callv hr hW.2.2.2.1 (fun _ _ h => h) (fun _ h => h) (fun u t H1 locs1 ht _ hp hB _ _ hS => kk u H1 locs1 hp (hW.back ht hB hS))
theorem cl_r {S : Type} {post : S → Prop} {wf : S → Nat → va_W} (hr : va_Run p l e R s m args below meth c H locs cells slots mc ms (F0 m pc ls st0) rest (va_Qr post (fun u ra t => pW G (wf u ra) t) (pA G) ar) (pA G)) (hW : pM G ws s H locs)
    (kk : ∀ (u : S) (ra : Nat) (H1 : Heap) (locs1 : List Loc), post u → pM G (wf u ra) s H1 locs1 → W p l e R s m args below meth c H1 locs1 (cells + mc) (slots + ms) Q (F0 m (pc + 3) ls (.ref ra :: rest))) : W p l e R s m args below meth c H locs cells slots Q (F0 m pc ls st0) :=
  va_callr hr hW.2.2.2.1 (fun _ _ h => h) (fun _ h => h) (fun u ra t H1 locs1 ht _ hp hB _ _ hS => kk u ra H1 locs1 hp (hW.back ht hB hS))
/-! ends -/
variable {S : Type}
theorem W_mono {Q' : State → Prop} {g : JFrame} (h : ∀ t, Q' t → Q t) (k : W p l e R s m args below meth c H locs cells slots Q' g) : W p l e R s m args below meth c H locs cells slots Q g := fun X1 hT X => by
  obtain ⟨t, st, q⟩ := k X1 hT X
  exact ⟨t, st, h t q⟩
theorem X_mono {Q' : State → Prop} {g : JFrame} {q : Addr} (h : ∀ t, Q' t → Q t) (k : vx_W p l e R s m args below meth c H locs cells slots Q' g q) : vx_W p l e R s m args below meth c H locs cells slots Q g q := fun X1 hT X => by
  obtain ⟨t, st, z⟩ := k X1 hT X
  exact ⟨t, st, h t z⟩
theorem lv_eqi {x y : Int32} (h : x = y) (k : W p l e R s m args below meth c H locs cells slots Q (F0 m pc ls (.int y :: rest))) : W p l e R s m args below meth c H locs cells slots Q (F0 m pc ls (.int x :: rest)) := h ▸ k
theorem lv_eqv {x y : Value} (h : x = y) (k : W p l e R s m args below meth c H locs cells slots Q (F0 m pc ls (y :: rest))) : W p l e R s m args below meth c H locs cells slots Q (F0 m pc ls (x :: rest)) := h ▸ k
theorem lb {a A b : Nat} (h : A = b) (h2 : Nat.ble a b = true) : a ≤ A := h ▸ Nat.le_of_ble_eq_true h2
theorem re_i {post : Int32 → S → Prop} {wf : S → va_W} (hF : CallFix p m c cc nL s args lw_all own) (hr : meth.sig.returnType = some .int) (hk : meth.locks = false) (hQ : ∀ t, MQ below (va_Qi post (fun u t => pW G (wf u) t) (pA G)) args s mc ms (pA G) t → Q t) (hc : cells ≤ mc) (hs : slots ≤ ms) {v : Int32} (hdg : decode cc pc = .ok (.ireturn, 1)) (u : S) (hp : post v u) (hW : pM G (wf u) s H locs) : W p l e R s m args below meth c H locs cells slots Q (F0 m pc ls [.int v]) :=
  W_mono hQ (W.widen hc hs (W.iret hF.1 hF.2.1 hr (fun t ht hw => ⟨⟨v, u, rfl, hp, hW.toW ht hw⟩, hW.2.2.2.1.F ht⟩) hW.2.2.2.1.2.2 hdg hk))
theorem re_l {post : Int64 → S → Prop} {wf : S → va_W} (hF : CallFix p m c cc nL s args lw_all own) (hr : meth.sig.returnType = some .long) (hk : meth.locks = false) (hQ : ∀ t, MQ below (va_Ql post (fun u t => pW G (wf u) t) (pA G)) args s mc ms (pA G) t → Q t) (hc : cells ≤ mc) (hs : slots ≤ ms) {v : Int64} (hdg : decode cc pc = .ok (.lreturn, 1)) (u : S) (hp : post v u) (hW : pM G (wf u) s H locs) : W p l e R s m args below meth c H locs cells slots Q (F0 m pc ls [.long v]) :=
  W_mono hQ (W.widen hc hs (W.lret hF.1 hF.2.1 hr (fun t ht hw => ⟨⟨v, u, rfl, hp, hW.toW ht hw⟩, hW.2.2.2.1.F ht⟩) hW.2.2.2.1.2.2 hdg hk))
theorem re_z {post : Int32 → S → Prop} {wf : S → va_W} (hF : CallFix p m c cc nL s args lw_all own) {ty : FieldType} (hr : meth.sig.returnType = some ty) (hk : meth.locks = false) (hQ : ∀ t, MQ below (va_Qi post (fun u t => pW G (wf u) t) (pA G)) args s mc ms (pA G) t → Q t) (hc : cells ≤ mc) (hs : slots ≤ ms) {v : Int32} (hn : narrow ty (.int v) = .int v) (hdg : decode cc pc = .ok (.ireturn, 1)) (u : S) (hp : post v u) (hW : pM G (wf u) s H locs) : W p l e R s m args below meth c H locs cells slots Q (F0 m pc ls [.int v]) :=
  W_mono hQ (W.widen hc hs (W.zret hF.1 hF.2.1 hr hn (fun t ht hw => ⟨⟨v, u, rfl, hp, hW.toW ht hw⟩, hW.2.2.2.1.F ht⟩) hW.2.2.2.1.2.2 hdg hk))
theorem re_v {post : S → Prop} {wf : S → va_W} (hF : CallFix p m c cc nL s args lw_all own) (hr : meth.sig.returnType = none) (hk : meth.locks = false) (hQ : ∀ t, MQ below (va_Qv post (fun u t => pW G (wf u) t) (pA G)) args s mc ms (pA G) t → Q t) (hc : cells ≤ mc) (hs : slots ≤ ms) (hdg : decode cc pc = .ok (.return_, 1)) (u : S) (hp : post u) (hW : pM G (wf u) s H locs) : W p l e R s m args below meth c H locs cells slots Q (F0 m pc ls []) :=
  W_mono hQ (W.widen hc hs (W.vret hF.1 hF.2.1 hr (fun t ht hw => ⟨⟨u, rfl, hp, hW.toW ht hw⟩, hW.2.2.2.1.F ht⟩) hW.2.2.2.1.2.2 hdg hk))
theorem re_r {post : S → Prop} {wf : S → Nat → va_W} (hF : CallFix p m c cc nL s args lw_all own) {rt : FieldType} (hr : meth.sig.returnType = some rt) (hrt : (∃ n, rt = .object n) ∨ ∃ t, rt = .array t) (hk : meth.locks = false) (hQ : ∀ t, MQ below (va_Qr post (fun u ra t => pW G (wf u ra) t) (pA G)) args s mc ms (pA G) t → Q t) (hc : cells ≤ mc) (hs : slots ≤ ms) (hdg : decode cc pc = .ok (.areturn, 1)) (u : S) {ra : Nat} (hp : post u) (hW : pM G (wf u ra) s H locs) : W p l e R s m args below meth c H locs cells slots Q (F0 m pc ls [.ref ra]) :=
  W_mono hQ (W.widen hc hs (W.aret hF.1 hF.2.1 hr hrt (Or.inr ⟨ra, rfl⟩) (fun t ht hw => ⟨⟨u, ra, rfl, hp, hW.toW ht hw⟩, hW.2.2.2.1.F ht⟩) hW.2.2.2.1.2.2 hdg hk))
theorem re_q {post : Option Nat → S → Prop} {wf : S → va_W} (hF : CallFix p m c cc nL s args lw_all own) {rt : FieldType} (hr : meth.sig.returnType = some rt) (hrt : (∃ n, rt = .object n) ∨ ∃ t, rt = .array t) (hk : meth.locks = false) (hQ : ∀ t, MQ below (va_Qq post (fun u t => pW G (wf u) t) (pA G)) args s mc ms (pA G) t → Q t) (hc : cells ≤ mc) (hs : slots ≤ ms) (hdg : decode cc pc = .ok (.areturn, 1)) (r : Option Nat) {v : Value} (hv : v = va_rf r) (u : S) (hp : post r u) (hW : pM G (wf u) s H locs) : W p l e R s m args below meth c H locs cells slots Q (F0 m pc ls [v]) := by
  subst hv
  exact W_mono hQ (W.widen hc hs (W.aret hF.1 hF.2.1 hr hrt (by cases r with | none => exact Or.inl rfl | some q => exact Or.inr ⟨q, rfl⟩) (fun t ht hw => ⟨⟨r, u, rfl, hp, hW.toW ht hw⟩, hW.2.2.2.1.F ht⟩) hW.2.2.2.1.2.2 hdg hk))
/-! entries -/
theorem mw {av : List Value} (hy : plainName y.cls = true) (hlen : (lg_sl av).length ≤ maxL)
    (body : ∀ (p : Program) (e : Env) (R : Room) (s : State) (m : MethodId) (below : List Frame) (meth : Method) (c : Code) (ls : Array Slot) (Q : State → Prop), CallFix p m c cc maxL s av.toArray lw_all y.cls → meth.sig.returnType = ret → meth.locks = false → meth.name = y.name → R = rm → (∀ t, MQ below Qc av.toArray s mc ms free t → Q t) → pM G ws s s.heap [] → lv_has ls maxL (lv_args 0 av) → W p l e R s m av.toArray below meth c s.heap [] 0 0 Q (F0 m 0 ls [])) :
    Met l y (ws_ y cc maxL ret) rm (va_Pc av (fun U => pW G ws U)) Qc mc ms free := by
  refine Met.ofW (cc := cc) (maxL := maxL) (ret := ret) hy rfl ?_
  intro p e s m args below meth c s₁ B hml hv
  obtain ⟨rfl, hW⟩ := hv
  have hts := atoms_spec (ws := ws_ y cc maxL ret) B.pre
  have hts : ∀ w ∈ lw_all, w.before av.toArray s = true := fun w h => hts w (List.mem_cons_of_mem _ h)
  have hl := lv_entry av (n := maxL) hlen
  rw [lg_entry_eq]
  generalize (lg_sl av ++ List.replicate (maxL - (lg_sl av).length) Slot.unset).toArray = ls at hl ⊢
  exact body p e _ s m below meth c ls _ ⟨B.exec, B.bytes, hml, findClass_of_methodNamed B.named, hts⟩ B.returns B.notSynchronized (name_of_methodNamed B.named B.method).1 rfl (fun _ h => h) (pM.start hW) hl
/-- a body that may throw, without a table -/
theorem mx {av : List Value} {XC : Addr → String → State → State → Prop} (hy : plainName y.cls = true) (hlen : (lg_sl av).length ≤ maxL)
    (body : ∀ (p : Program) (e : Env) (R : Room) (s : State) (m : MethodId) (below : List Frame) (meth : Method) (c : Code) (ls : Array Slot) (Q : State → Prop), CallFix p m c cc maxL s av.toArray lw_all y.cls → meth.sig.returnType = ret → meth.locks = false → (∀ x ∈ c.exceptionTable.toList, False) → R = rm → (∀ t, vx_MQ below Qc XC av.toArray s mc ms free t → Q t) → (∀ t, MQ below Qc av.toArray s mc ms free t → Q t) → pM G ws s s.heap [] → lv_has ls maxL (lv_args 0 av) → W p l e R s m av.toArray below meth c s.heap [] 0 0 Q (F0 m 0 ls [])) :
    vx_Met l y (ws_ y cc maxL ret) rm (va_Pc av (fun U => pW G ws U)) Qc XC mc ms free := by
  refine vx_ofW (cc := cc) (maxL := maxL) (ret := ret) hy rfl ?_
  intro p e s m args below meth c s₁ B hml htab hv
  obtain ⟨rfl, hW⟩ := hv
  have hts := atoms_spec (ws := ws_ y cc maxL ret) B.pre
  have hts : ∀ w ∈ lw_all, w.before av.toArray s = true := fun w h => hts w (List.mem_cons_of_mem _ h)
  have hl := lv_entry av (n := maxL) hlen
  rw [lg_entry_eq]
  generalize (lg_sl av ++ List.replicate (maxL - (lg_sl av).length) Slot.unset).toArray = ls at hl ⊢
  exact body p e _ s m below meth c ls _ ⟨B.exec, B.bytes, hml, findClass_of_methodNamed B.named, hts⟩ B.returns B.notSynchronized htab rfl (fun _ h => h) (fun t h => by obtain ⟨o, b1, b2, b3, b4⟩ := h; exact ⟨o, b1, b2, Or.inl ⟨b3, b4⟩⟩) (pM.start hW) hl
/-- a body with a table, that lets nothing out -/
theorem mh {av : List Value} {hh : List (Nat × Nat × Nat × Nat)} (hy : plainName y.cls = true) (hlen : (lg_sl av).length ≤ maxL)
    (body : ∀ (p : Program) (e : Env) (R : Room) (s : State) (m : MethodId) (below : List Frame) (meth : Method) (c : Code) (ls : Array Slot) (Q : State → Prop), CallFix p m c cc maxL s av.toArray lw_all y.cls → meth.sig.returnType = ret → meth.locks = false → c.exceptionTable.toList = tableOf hh → R = rm → (∀ t, MQ below Qc av.toArray s mc ms free t → Q t) → pM G ws s s.heap [] → lv_has ls maxL (lv_args 0 av) → W p l e R s m av.toArray below meth c s.heap [] 0 0 Q (F0 m 0 ls [])) :
    vx_Met l y (wsW_ y cc maxL ret hh) rm (va_Pc av (fun U => pW G ws U)) Qc (fun _ _ _ _ => False) mc ms free := by
  refine vx_ofWH (cc := cc) (maxL := maxL) (ret := ret) (hh := hh) hy rfl ?_
  intro p e s m args below meth c s₁ B hml hv
  obtain ⟨rfl, hW⟩ := hv
  have hts0 := atoms_spec (ws := wsW_ y cc maxL ret hh) B.pre
  have hts : ∀ w ∈ lw_all, w.before av.toArray s = true := fun w h => hts0 w (List.mem_cons_of_mem _ h)
  have hl := lv_entry av (n := maxL) hlen
  rw [lg_entry_eq]
  generalize (lg_sl av ++ List.replicate (maxL - (lg_sl av).length) Slot.unset).toArray = ls at hl ⊢
  exact body p e _ s m below meth c ls _ ⟨B.exec, B.bytes, hml, findClass_of_methodNamed B.named, hts⟩ B.returns B.notSynchronized (vx_table (x := y) B (hts0 _ List.mem_cons_self)) rfl (fun t h => by obtain ⟨o, b1, b2, b3, b4⟩ := h; exact ⟨o, b1, b2, Or.inl ⟨b3, b4⟩⟩) (pM.start hW) hl
/-! calls that may throw: the thrown cell is one of the world's -/
abbrev pX {SX : Type} (G : pG) (E : String) (px : SX → Prop) (qx : SX → Nat) (wx : SX → va_W) : Addr → String → State → State → Prop := vx_X px (fun q E0 u t => q = qx u ∧ E0 = E ∧ pW G (wx u) t) (pA G)
theorem rx_V {XC : Addr → String → State → State → Prop} (S : CallFix p m c cc nL s args lw_all own) (hM : vx_Met l y wl rm (va_Pc (.ref b :: As) (fun U => pW G ws U)) Qc XC mc ms free) (cw : CallW R s args own Cn index y bytes maxL ret wl rm mc ms n) (hW : pM G ws s H locs) (hm : (b, .inr (ci, fs)) ∈ ws) (hc : vwCl[ci]? = some (Cn, T, N))
    (hg : g.method = m) (hn : As.length = n) (hsize : g.locals.size = nL) (hstack : g.stack = As.reverse ++ .ref b :: rest) (hR : 2 * g.monitorRoom + (rest.map fun v => v.category).sum ≤ 8) (hdg : decode cc g.pc = .ok (.invokevirtual index, 3)) (hf : cells + mc ≤ R.cells ∧ slots + ms ≤ R.slots) :
    vx_Run p l e R s m args below meth c H locs cells slots mc ms g rest (Qc (Value.ref b :: As).toArray) XC free :=
  vx_runV S hM cw ⟨pBlind, rcv hW hm hc, fun U hU hw => ⟨rfl, hW.toW hU hw⟩⟩ hg hn hsize hstack hR hdg hf
theorem cx_i {SX : Type} {E : String} {post : Int32 → S → Prop} {wf : S → va_W} {px : SX → Prop} {qx : SX → Nat} {wx : SX → va_W} (hr : vx_Run p l e R s m args below meth c H locs cells slots mc ms (F0 m pc ls st0) rest (va_Qi post (fun u t => pW G (wf u) t) (pA G) ar) (pX G E px qx wx) (pA G)) (hW : pM G ws s H locs)
    (kx : ∀ (u : SX) (H1 : Heap) (locs1 : List Loc), px u → pM G (wx u) s H1 locs1 → vx_W p l e R s m args below meth c H1 locs1 (cells + mc) (slots + ms) Q (F0 m pc ls rest) (qx u))
    (kk : ∀ (r : Int32) (u : S) (H1 : Heap) (locs1 : List Loc), post r u → pM G (wf u) s H1 locs1 → W p l e R s m args below meth c H1 locs1 (cells + mc) (slots + ms) Q (F0 m (pc + 3) ls (.int r :: rest))) : W p l e R s m args below meth c H locs cells slots Q (F0 m pc ls st0) :=
  vx_calli hr hW.2.2.2.1 (fun _ _ h => h) (fun _ h => h) (fun _ _ h => h) (fun E0 ce q9 u t H1 locs1 ht _ hp hB _ _ hS _ _ _ => by obtain ⟨rfl, rfl, hB⟩ := hB; exact kx u H1 locs1 hp (hW.back ht hB hS)) (fun r u t H1 locs1 ht _ hp hB _ _ hS => kk r u H1 locs1 hp (hW.back ht hB hS))
theorem cx_v {SX : Type} {E : String} {post : S → Prop} {wf : S → va_W} {px : SX → Prop} {qx : SX → Nat} {wx : SX → va_W} (hr : vx_Run p l e R s m args below meth c H locs cells slots mc ms (F0 m pc ls st0) rest (va_Qv post (fun u t => pW G (wf u) t) (pA G) ar) (pX G E px qx wx) (pA G)) (hW : pM G ws s H locs)
    (kx : ∀ (u : SX) (H1 : Heap) (locs1 : List Loc), px u → pM G (wx u) s H1 locs1 → vx_W p l e R s m args below meth c H1 locs1 (cells + mc) (slots + ms) Q (F0 m pc ls rest) (qx u))
    (kk : ∀ (u : S) (H1 : Heap) (locs1 : List Loc), post u → pM G (wf u) s H1 locs1 → W p l e R s m args below meth c H1 locs1 (cells + mc) (slots + ms) Q (F0 m (pc + 3) ls rest)) : W p l e R s m args below meth c H locs cells slots Q (F0 m pc ls st0) :=
  vx_callv hr hW.2.2.2.1 (fun _ _ h => h) (fun _ h => h) (fun _ _ h => h) (fun E0 ce q9 u t H1 locs1 ht _ hp hB _ _ hS _ _ _ => by obtain ⟨rfl, rfl, hB⟩ := hB; exact kx u H1 locs1 hp (hW.back ht hB hS)) (fun u t H1 locs1 ht _ hp hB _ _ hS => kk u H1 locs1 hp (hW.back ht hB hS))
theorem cx_r {SX : Type} {E : String} {post : S → Prop} {wf : S → Nat → va_W} {px : SX → Prop} {qx : SX → Nat} {wx : SX → va_W} (hr : vx_Run p l e R s m args below meth c H locs cells slots mc ms (F0 m pc ls st0) rest (va_Qr post (fun u ra t => pW G (wf u ra) t) (pA G) ar) (pX G E px qx wx) (pA G)) (hW : pM G ws s H locs)
    (kx : ∀ (u : SX) (H1 : Heap) (locs1 : List Loc), px u → pM G (wx u) s H1 locs1 → vx_W p l e R s m args below meth c H1 locs1 (cells + mc) (slots + ms) Q (F0 m pc ls rest) (qx u))
    (kk : ∀ (u : S) (ra : Nat) (H1 : Heap) (locs1 : List Loc), post u → pM G (wf u ra) s H1 locs1 → W p l e R s m args below meth c H1 locs1 (cells + mc) (slots + ms) Q (F0 m (pc + 3) ls (.ref ra :: rest))) : W p l e R s m args below meth c H locs cells slots Q (F0 m pc ls st0) := by
  intro X1 hT X
  rcases hr X1 hT X with ⟨v, st₀, t, T', L, h0, X', hL, e1, e2, ⟨⟨u, ra, hv, hp, hb⟩, hF⟩, st⟩ | ⟨q, st₀, t, T', L, E0, ce, h0, X', hL, e1, e2, ⟨u, hp, ⟨rfl, rfl, hb⟩, hF⟩, hce, hcv, hcl, st⟩
  · cases hv
    obtain ⟨k1, k2, k3⟩ := vx_keep h0 e1 hW.2.2.2.1 (fun _ _ h => h) (fun _ h => h) hL hF
    obtain ⟨t2, a1, b1⟩ := kk u ra T'.heap (locs ++ L) hp (hW.back e1.symm hb k3) T' rfl X'
    exact ⟨t2, st t2 a1, b1⟩
  · obtain ⟨k1, k2, k3⟩ := vx_keep h0 e1 hW.2.2.2.1 (fun _ _ h => h) (fun _ h => h) hL hF
    obtain ⟨t2, a1, b1⟩ := kx u T'.heap (locs ++ L) hp (hW.back e1.symm hb k3) T' rfl X'
    exact ⟨t2, st.trans a1, b1⟩
/-- thrown on to the caller -/
theorem ox {SX : Type} {E : String} {px : SX → Prop} {qx : SX → Nat} {wx : SX → va_W} (htab : ∀ x ∈ c.exceptionTable.toList, False) (hk : meth.locks = false) (hQ : ∀ t, vx_MQ below Qc (pX G E px qx wx) args s mc ms (pA G) t → Q t) (hc : cells ≤ mc) (hs : slots ≤ ms) (u : SX) (hp : px u) (hW : pM G (wx u) s H locs) {T : u_T} (hm : (qx u, .inr (ci, fs)) ∈ wx u) (hcl : vwCl[ci]? = some (E, T, N)) : vx_W p l e R s m args below meth c H locs cells slots Q (F0 m pc ls rest) (qx u) := by
  obtain ⟨q0, hq⟩ := List.getElem?_of_mem hm
  obtain ⟨q', h1, cell, g1, g2, g3, -⟩ := hW.2.1 q0 _ hq
  refine X_mono hQ (vx_out (E := E) (ce := cell) (fun x hx => absurd hx (fun h => htab x h)) hk g1 g3 ?_ (fun t ht hvm => ⟨u, hp, ⟨rfl, rfl, ?_⟩, hW.2.2.2.1.F ht⟩) hW.2.2.2.1.2.2 hc hs)
  · rw [g2]; exact (hW.1.1 ci _ hcl).2.1
  · exact hW.toW ht hvm

end CAL

