/-! cells in the middle of a world; new ones -/
theorem ps_get {Z K Y : va_W} {q : Nat × va_E} : (Z ++ (K ++ (q :: Y)))[Z.length + K.length]? = some q := by
  rw [List.getElem?_append_right (by omega), List.getElem?_append_right (by omega)]
  simp
theorem ps_set {Z K Y : va_W} {q q1 : Nat × va_E} : (Z ++ (K ++ (q :: Y))).set (Z.length + K.length) q1 = Z ++ (K ++ (q1 :: Y)) := by
  rw [List.set_append_right _ _ (by omega), List.set_append_right _ _ (by omega)]
  simp
theorem ps_mem {Z K Y : va_W} {q : Nat × va_E} : q ∈ Z ++ (K ++ (q :: Y)) := List.mem_append_right _ (List.mem_append_right _ List.mem_cons_self)
theorem ms_l {Z Y : va_W} {q : Nat × va_E} (h : q ∈ Z) : q ∈ Z ++ Y := List.mem_append_left _ h
theorem ms_r {Z Y : va_W} {q : Nat × va_E} (h : q ∈ Y) : q ∈ Z ++ Y := List.mem_append_right _ h
theorem ms_z {Z : va_W} {q : Nat × va_E} : q ∈ Z ++ [q] := List.mem_append_right _ List.mem_cons_self
theorem pM.asc {G : pG} {A B C0 : va_W} {s : State} {H : Heap} {locs : List Loc} (h : pM G (A ++ B ++ C0) s H locs) : pM G (A ++ (B ++ C0)) s H locs := by rw [← List.append_assoc]; exact h
theorem pM.csa {G : pG} {A B C0 : va_W} {s : State} {H : Heap} {locs : List Loc} (h : pM G (A ++ (B ++ C0)) s H locs) : pM G (A ++ B ++ C0) s H locs := by rw [List.append_assoc]; exact h
theorem zq {C0 n d : String} {A : Nat → Prop} {U : State} {H : Heap} (h : va_Zq C0 n d A U H) : ∃ r : Option Nat, va_Z C0 n d (va_rf r) A U H := by
  rcases h with h | ⟨t, h⟩
  · exact ⟨none, h⟩
  · exact ⟨some t, h⟩
section POS
variable {p : Program} {l : Launch} {e : Env} {R : Room} {s : State} {m : MethodId} {args : Array Value} {below : List Frame} {meth : Method} {c : Code} {H : Heap} {locs : List Loc} {cells slots : Nat} {Q : State → Prop}
variable {cc : ByteArray} {pc nL : Nat} {ls : Array Slot} {rest : List Value} {G : pG} {ws ws0 Z K Y : va_W} {own : String} {a ci N index : Nat} {fs : List Value} {Cn ref : String} {T : u_T}

theorem pz (Z K Y : va_W) (S : CallFix p m c cc nL s args lw_all own) (hW : pM G (Z ++ (K ++ ((a, .inr (ci, fs)) :: Y))) s H locs) (hc : vwCl[ci]? = some (Cn, T, N)) (hin : ∀ w ∈ u_ws Cn T N, w ∈ lw_all) (ty0 : Nat → FieldType) (hty : ∀ k, k < N → parseFieldDescriptor (T k).2.2.1 = some (ty0 k)) (hnm : ∀ a, a < N → ∀ b, b < N → a ≠ b → (T a).2.1 ≠ (T b).2.1) (k : Nat) (hk : k < N) (hl : Cond.fieldLink own index ref (T k).2.1 (T k).2.2.1 ∈ lw_all) (hs : (T k).1 = ref) (hfin : (T k).2.2.2 = false) {v : Value} (hn : narrow (ty0 k) v = v) (hfit : fits (ty0 k) v = true) (hlen : k < fs.length) (hdg : decode cc pc = .ok (.putfield index, 3))
    (kk : ∀ (H1 : Heap) (locs1 : List Loc), pM G (Z ++ (K ++ ((a, .inr (ci, fs.set k v)) :: Y))) s H1 locs1 → W p l e R s m args below meth c H1 locs1 cells slots Q (F0 m (pc + 3) ls rest)) : W p l e R s m args below meth c H locs cells slots Q (F0 m pc ls (v :: .ref a :: rest)) :=
  pt S hW (Z.length + K.length) ps_get hc hin ty0 hty hnm k hk hl hs hfin hn hfit hlen hdg (fun H1 locs1 h => kk H1 locs1 (by rw [ps_set] at h; exact h))
theorem pzN {host : String} (Z K Y : va_W) (S : CallFix p m c cc nL s args lw_all own) (hW : pM G (Z ++ (K ++ ((a, .inr (ci, fs)) :: Y))) s H locs) (hc : vwCl[ci]? = some (Cn, T, N)) (hin : ∀ w ∈ u_ws Cn T N, w ∈ lw_all) (ty0 : Nat → FieldType) (hty : ∀ k, k < N → parseFieldDescriptor (T k).2.2.1 = some (ty0 k)) (hnm : ∀ a, a < N → ∀ b, b < N → a ≠ b → (T a).2.1 ≠ (T b).2.1) (k : Nat) (hk : k < N) (hl : Cond.fieldLinkNest own index ref (T k).2.1 (T k).2.2.1 host ∈ pNst) (hs : (T k).1 = ref) (hfin : (T k).2.2.2 = false) {v : Value} (hn : narrow (ty0 k) v = v) (hfit : fits (ty0 k) v = true) (hlen : k < fs.length) (hdg : decode cc pc = .ok (.putfield index, 3))
    (kk : ∀ (H1 : Heap) (locs1 : List Loc), pM G (Z ++ (K ++ ((a, .inr (ci, fs.set k v)) :: Y))) s H1 locs1 → W p l e R s m args below meth c H1 locs1 cells slots Q (F0 m (pc + 3) ls rest)) : W p l e R s m args below meth c H locs cells slots Q (F0 m pc ls (v :: .ref a :: rest)) :=
  ptN S hW (Z.length + K.length) ps_get hc hin ty0 hty hnm k hk hl hs hfin hn hfit hlen hdg (fun H1 locs1 h => kk H1 locs1 (by rw [ps_set] at h; exact h))
theorem pzF (Z K Y : va_W) (S : CallFix p m c cc nL s args lw_all own) (hi : meth.name = "<init>") (hW : pM G (Z ++ (K ++ ((a, .inr (ci, fs)) :: Y))) s H locs) (hc : vwCl[ci]? = some (Cn, T, N)) (hin : ∀ w ∈ u_ws Cn T N, w ∈ lw_all) (ty0 : Nat → FieldType) (hty : ∀ k, k < N → parseFieldDescriptor (T k).2.2.1 = some (ty0 k)) (hnm : ∀ a, a < N → ∀ b, b < N → a ≠ b → (T a).2.1 ≠ (T b).2.1) (k : Nat) (hk : k < N) (hl : Cond.fieldLink own index ref (T k).2.1 (T k).2.2.1 ∈ lw_all) (hs : (T k).1 = ref) (hfin : (T k).2.2.2 = true) (hdecl : (T k).1 = own) {v : Value} (hn : narrow (ty0 k) v = v) (hfit : fits (ty0 k) v = true) (hlen : k < fs.length) (hdg : decode cc pc = .ok (.putfield index, 3))
    (kk : ∀ (H1 : Heap) (locs1 : List Loc), pM G (Z ++ (K ++ ((a, .inr (ci, fs.set k v)) :: Y))) s H1 locs1 → W p l e R s m args below meth c H1 locs1 cells slots Q (F0 m (pc + 3) ls rest)) : W p l e R s m args below meth c H locs cells slots Q (F0 m pc ls (v :: .ref a :: rest)) :=
  ptF S hi hW (Z.length + K.length) ps_get hc hin ty0 hty hnm k hk hl hs hfin hdecl hn hfit hlen hdg (fun H1 locs1 h => kk H1 locs1 (by rw [ps_set] at h; exact h))
theorem az_i (Z K Y : va_W) (S : CallFix p m c cc nL s args lw_all own) {cA : ClassId} {n j : Nat} {f : Nat → Int32} (hW : pM G (Z ++ (K ++ ((a, .inl (cA, n, .inl f)) :: Y))) s H locs) (t0 : Nat) (ht : (pT G)[t0]? = some (cA, .int)) {i : Int32} {x : Int32} (hj : i = nI j) (hn : j < n) (hs : n ≤ 65536) (hdg : decode cc pc = .ok (.iastore, 1))
    (kk : ∀ (H1 : Heap) (locs1 : List Loc), pM G (Z ++ (K ++ ((a, .inl (cA, n, .inl (va_up f j x))) :: Y))) s H1 locs1 → W p l e R s m args below meth c H1 locs1 cells slots Q (F0 m (pc + 1) ls rest)) : W p l e R s m args below meth c H locs cells slots Q (F0 m pc ls (.int x :: .int i :: .ref a :: rest)) :=
  as_i S hW (Z.length + K.length) ps_get t0 ht hj hn hs hdg (fun H1 locs1 h => kk H1 locs1 (by rw [ps_set] at h; exact h))
theorem az_b (Z K Y : va_W) (S : CallFix p m c cc nL s args lw_all own) {cA : ClassId} {n j : Nat} {f : Nat → Int32} (hW : pM G (Z ++ (K ++ ((a, .inl (cA, n, .inl f)) :: Y))) s H locs) (t0 : Nat) (ht : (pT G)[t0]? = some (cA, .byte)) {i : Int32} {x : Int32} (hj : i = nI j) (hn : j < n) (hs : n ≤ 65536) (hdg : decode cc pc = .ok (.bastore, 1))
    (kk : ∀ (H1 : Heap) (locs1 : List Loc), pM G (Z ++ (K ++ ((a, .inl (cA, n, .inl (va_up f j (vp_nar .byte x)))) :: Y))) s H1 locs1 → W p l e R s m args below meth c H1 locs1 cells slots Q (F0 m (pc + 1) ls rest)) : W p l e R s m args below meth c H locs cells slots Q (F0 m pc ls (.int x :: .int i :: .ref a :: rest)) :=
  as_b S hW (Z.length + K.length) ps_get t0 ht hj hn hs hdg (fun H1 locs1 h => kk H1 locs1 (by rw [ps_set] at h; exact h))
theorem az_l (Z K Y : va_W) (S : CallFix p m c cc nL s args lw_all own) {cA : ClassId} {n j : Nat} {f : Nat → Int64} (hW : pM G (Z ++ (K ++ ((a, .inl (cA, n, .inr (.inl f))) :: Y))) s H locs) (t0 : Nat) (ht : (pT G)[t0]? = some (cA, .long)) {i : Int32} {x : Int64} (hj : i = nI j) (hn : j < n) (hs : n ≤ 65536) (hdg : decode cc pc = .ok (.lastore, 1))
    (kk : ∀ (H1 : Heap) (locs1 : List Loc), pM G (Z ++ (K ++ ((a, .inl (cA, n, .inr (.inl (va_up f j x)))) :: Y))) s H1 locs1 → W p l e R s m args below meth c H1 locs1 cells slots Q (F0 m (pc + 1) ls rest)) : W p l e R s m args below meth c H locs cells slots Q (F0 m pc ls (.long x :: .int i :: .ref a :: rest)) :=
  as_l S hW (Z.length + K.length) ps_get t0 ht hj hn hs hdg (fun H1 locs1 h => kk H1 locs1 (by rw [ps_set] at h; exact h))
theorem az_r (Z K Y : va_W) (S : CallFix p m c cc nL s args lw_all own) {cA : ClassId} {n j v ci : Nat} {vs : List Value} {f : Nat → Option Nat} {r : vw_C} (hW : pM G (Z ++ (K ++ ((a, .inl (cA, n, .inr (.inr (.inr (.inr f))))) :: Y))) s H locs) (t0 : Nat) (ht : (pT G)[t0]? = some (cA, .object r.1)) (hv : (v, .inr (ci, vs)) ∈ Z ++ (K ++ ((a, .inl (cA, n, .inr (.inr (.inr (.inr f))))) :: Y))) (hc : vwCl[ci]? = some r) {i : Int32} (hj : i = nI j) (hn : j < n) (hs : n ≤ 65536) (hdg : decode cc pc = .ok (.aastore, 1))
    (kk : ∀ (H1 : Heap) (locs1 : List Loc), pM G (Z ++ (K ++ ((a, .inl (cA, n, .inr (.inr (.inr (.inr (va_up f j (some v))))))) :: Y))) s H1 locs1 → W p l e R s m args below meth c H1 locs1 cells slots Q (F0 m (pc + 1) ls rest)) : W p l e R s m args below meth c H locs cells slots Q (F0 m pc ls (.ref v :: .int i :: .ref a :: rest)) :=
  as_r S hW (Z.length + K.length) ps_get t0 ht hv hc hj hn hs hdg (fun H1 locs1 h => kk H1 locs1 (by rw [ps_set] at h; exact h))
end POS
/-! strings: letters below 256, at most ten -/
def HS (G : pG) (ws : va_W) (a : Nat) (nm : List Nat) : Prop := ∃ (b : Nat) (f : Nat → Int32), (a, .inr (19, [.ref b, .int 0, .int 0, .int 0])) ∈ ws ∧ (b, .inl (G.2.2.1 1, nm.length, .inl f)) ∈ ws ∧ nm.length ≤ 10 ∧ ∀ j, j < nm.length → f j = nI (nm.getD j 0) ∧ nm.getD j 0 < 256
theorem HS.mono {G : pG} {ws w1 : va_W} {a : Nat} {nm : List Nat} (h : HS G ws a nm) (hs : ∀ q ∈ ws, q ∈ w1) : HS G w1 a nm := by
  obtain ⟨b, f, h1, h2, h3, h4⟩ := h
  exact ⟨b, f, hs _ h1, hs _ h2, h3, h4⟩
theorem getD_ext {a b : List Nat} (h : a.length = b.length) (hj : ∀ j, j < a.length → a.getD j 0 = b.getD j 0) : a = b := by
  apply List.ext_getElem h
  intro i h1 h2
  have := hj i h1
  rw [List.getD_eq_getElem?_getD, List.getD_eq_getElem?_getD, List.getElem?_eq_getElem h1, List.getElem?_eq_getElem h2] at this
  exact this
theorem str_eq {n1 n2 : List Nat} {f1 f2 : Nat → Int32} (h1 : ∀ j, j < n1.length → f1 j = nI (n1.getD j 0) ∧ n1.getD j 0 < 256) (h2 : ∀ j, j < n2.length → f2 j = nI (n2.getD j 0) ∧ n2.getD j 0 < 256) : (n1.length = n2.length ∧ ∀ j, j < n1.length → f1 j = f2 j) ↔ n1 = n2 := by
  constructor
  · rintro ⟨hl, hj⟩
    refine getD_ext hl (fun j hlt => ?_)
    have e := hj j hlt
    rw [(h1 j hlt).1, (h2 j (by omega)).1] at e
    have b1 := (h1 j hlt).2
    have b2 := (h2 j (by omega)).2
    exact eq_eq e
  · intro h
    subst h
    exact ⟨rfl, fun j hj => by rw [(h1 j hj).1, (h2 j hj).1]⟩
theorem HS.one {G : pG} {ws : va_W} {s : State} {H : Heap} {locs : List Loc} {a : Nat} {n1 n2 : List Nat} (hW : pM G ws s H locs) (h1 : HS G ws a n1) (h2 : HS G ws a n2) : n1 = n2 := by
  obtain ⟨b, f, p1, p2, p3, p4⟩ := h1
  obtain ⟨b', f', q1, q2, q3, q4⟩ := h2
  have e1 := hW.same p1 q1
  simp only [Sum.inr.injEq, Prod.mk.injEq, List.cons.injEq, Value.ref.injEq, true_and, and_true] at e1
  subst e1
  have e2 := hW.same p2 q2
  simp only [Sum.inl.injEq, Prod.mk.injEq, true_and] at e2
  obtain ⟨e3, e4⟩ := e2
  subst e4
  exact (str_eq p4 q4).mp ⟨e3, fun _ _ => rfl⟩

