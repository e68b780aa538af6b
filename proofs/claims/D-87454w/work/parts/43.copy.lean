/-! copies of texts -/
theorem cpy_0 {α : Type} {f g : Nat → α} {n k : Nat} (h : k < n) : va_cpy f g 0 0 n k = f k := by
  rw [pk_cpy_in (Nat.zero_le _) (by omega)]
  simp
theorem HTc.cpy {G : pG} {Y : va_W} {t : Tx} {nf lf g1 g3 : Nat → Option Nat} {wf g2 : Nat → Int32} (h : HTc G Y t nf lf wf) : HTc G Y t (va_cpy nf g1 0 0 t.1.length) (va_cpy lf g3 0 0 t.2.2.length) (va_cpy wf g2 0 0 t.1.length) :=
  ⟨fun k hk => by rw [cpy_0 hk]; exact h.1 k hk, fun k hk => by rw [cpy_0 hk]; exact h.2.1 k hk, fun k hk => by rw [cpy_0 hk]; exact h.2.2 k hk⟩
section COPQ
variable {p : Program} {l : Launch} {e : Env} {R : Room} {s : State} {m : MethodId} {args : Array Value} {below : List Frame} {meth : Method} {c : Code} {H : Heap} {locs : List Loc} {cells slots : Nat} {Q : State → Prop}
variable {cc : ByteArray} {pc nL : Nat} {ls : Array Slot} {rest : List Value} {G : pG} {ws : va_W} {own : String} {a index : Nat}
theorem cp_q (S : CallFix p m c cc nL s args lw_all own) (hml : nL = ls.size) (hW : pM G ws s H locs) (hl : Cond.methodLink own index arraycopyName ∈ lw_all) (hnat : Cond.native arraycopyName ∈ lw_all) (hst : Cond.static arraycopyName ∈ lw_all) (hini : Cond.initialized "java/lang/System" ∈ lw_all) {a0 : Nat} {c0 c1 : ClassId} {n0 n1 : Nat} {f g : Nat → Option Nat} (hm : (a0, .inl (c0, n0, .inr (.inr (.inr (.inr f))))) ∈ ws) (q1 : Nat) (he : ws[q1]? = some (a, .inl (c1, n1, .inr (.inr (.inr (.inr g)))))) (t0 t1 ci : Nat) {r : vw_C} (hc : vwCl[ci]? = some r) (ht0 : (pT G)[t0]? = some (c0, .object r.1)) (ht1 : (pT G)[t1]? = some (c1, .object r.1)) {i j k : Nat} (hi : i ≤ 65536) (hj : j ≤ 65536) (hk : k ≤ 65536) (h4 : i + k ≤ n0) (h5 : j + k ≤ n1) (hel : ∀ q, q < k → ∀ y, f (i + q) = some y → ∃ vs, (y, .inr (ci, vs)) ∈ ws) (hfr : 1 ≤ R.frames) (hlo : (rest.map fun v => v.category).sum + (nativeFrameWords "java/lang/System" "arraycopy" 5 + 11) ≤ R.locals) (hdg : decode cc pc = .ok (.invokestatic index, 3))
    (kk : ∀ (H1 : Heap) (locs1 : List Loc), pM G (ws.set q1 (a, .inl (c1, n1, .inr (.inr (.inr (.inr (va_cpy f g i j k))))))) s H1 locs1 → W p l e R s m args below meth c H1 locs1 cells slots Q (F0 m (pc + 3) ls rest)) : W p l e R s m args below meth c H locs cells slots Q (F0 m pc ls (.int (nI k) :: .int (nI j) :: .ref a :: .int (nI i) :: .ref a0 :: rest)) := by
  obtain ⟨q0, hq⟩ := List.getElem?_of_mem hm
  have e1 := nI_clamp (n := i) (by omega)
  have e2 := nI_clamp (n := j) (by omega)
  have e3 := nI_clamp (n := k) (by omega)
  refine va_copyq (C := r.1) S.1 S.2.1 (S.2.2.1.trans hml) S.2.2.2.1 (S.2.2.2.2 _ hl) (S.2.2.2.2 _ hnat) (S.2.2.2.2 _ hst) (S.2.2.2.2 _ hini) hW.1 hW.2.1 hW.2.2.1 hW.2.2.2.1 q0 q1 t0 t1 hq he ht0 ht1 (nI_pos (by omega)) (nI_pos (by omega)) (nI_pos (by omega)) (by rw [e1, e3]; exact h4) (by rw [e2, e3]; exact h5) (fun q h y hy => ?_) vb_asgS hfr hlo hdg (fun H1 locs1 h1 h2 h3 => ?_)
  · rw [e3] at h
    rw [e1] at hy
    obtain ⟨vs, hv⟩ := hel q h y hy
    exact rcv hW hv hc
  · rw [e1, e2, e3] at h1 h2
    exact kk H1 locs1 ⟨hW.1, h1, h2, h3, hW.2.2.2.2⟩
theorem cz_i (Z K Y : va_W) (S : CallFix p m c cc nL s args lw_all own) (hml : nL = ls.size) {c1 : ClassId} {n1 : Nat} {g : Nat → Int32} (hW : pM G (Z ++ (K ++ ((a, .inl (c1, n1, .inl g)) :: Y))) s H locs) (hl : Cond.methodLink own index arraycopyName ∈ lw_all) (hnat : Cond.native arraycopyName ∈ lw_all) (hst : Cond.static arraycopyName ∈ lw_all) (hini : Cond.initialized "java/lang/System" ∈ lw_all) {a0 : Nat} {c0 : ClassId} {n0 : Nat} {f : Nat → Int32} (hm : (a0, .inl (c0, n0, .inl f)) ∈ Z ++ (K ++ ((a, .inl (c1, n1, .inl g)) :: Y))) (t0 t1 : Nat) (ht0 : (pT G)[t0]? = some (c0, .int)) (ht1 : (pT G)[t1]? = some (c1, .int)) {i j k : Nat} (hi : i ≤ 65536) (hj : j ≤ 65536) (hk : k ≤ 65536) (h4 : i + k ≤ n0) (h5 : j + k ≤ n1) (hfr : 1 ≤ R.frames) (hlo : (rest.map fun v => v.category).sum + (nativeFrameWords "java/lang/System" "arraycopy" 5 + 11) ≤ R.locals) (hdg : decode cc pc = .ok (.invokestatic index, 3))
    (kk : ∀ (H1 : Heap) (locs1 : List Loc), pM G (Z ++ (K ++ ((a, .inl (c1, n1, .inl (va_cpy f g i j k))) :: Y))) s H1 locs1 → W p l e R s m args below meth c H1 locs1 cells slots Q (F0 m (pc + 3) ls rest)) : W p l e R s m args below meth c H locs cells slots Q (F0 m pc ls (.int (nI k) :: .int (nI j) :: .ref a :: .int (nI i) :: .ref a0 :: rest)) :=
  cp_i S hml hW hl hnat hst hini hm (Z.length + K.length) ps_get t0 t1 ht0 ht1 hi hj hk h4 h5 hfr hlo hdg (fun H1 locs1 h => kk H1 locs1 (by rw [ps_set] at h; exact h))
theorem cz_q (Z K Y : va_W) (S : CallFix p m c cc nL s args lw_all own) (hml : nL = ls.size) {c1 : ClassId} {n1 : Nat} {g : Nat → Option Nat} (hW : pM G (Z ++ (K ++ ((a, .inl (c1, n1, .inr (.inr (.inr (.inr g))))) :: Y))) s H locs) (hl : Cond.methodLink own index arraycopyName ∈ lw_all) (hnat : Cond.native arraycopyName ∈ lw_all) (hst : Cond.static arraycopyName ∈ lw_all) (hini : Cond.initialized "java/lang/System" ∈ lw_all) {a0 : Nat} {c0 : ClassId} {n0 : Nat} {f : Nat → Option Nat} (hm : (a0, .inl (c0, n0, .inr (.inr (.inr (.inr f))))) ∈ Z ++ (K ++ ((a, .inl (c1, n1, .inr (.inr (.inr (.inr g))))) :: Y))) (t0 t1 ci : Nat) {r : vw_C} (hc : vwCl[ci]? = some r) (ht0 : (pT G)[t0]? = some (c0, .object r.1)) (ht1 : (pT G)[t1]? = some (c1, .object r.1)) {i j k : Nat} (hi : i ≤ 65536) (hj : j ≤ 65536) (hk : k ≤ 65536) (h4 : i + k ≤ n0) (h5 : j + k ≤ n1) (hel : ∀ q, q < k → ∀ y, f (i + q) = some y → ∃ vs, (y, .inr (ci, vs)) ∈ Z ++ (K ++ ((a, .inl (c1, n1, .inr (.inr (.inr (.inr g))))) :: Y))) (hfr : 1 ≤ R.frames) (hlo : (rest.map fun v => v.category).sum + (nativeFrameWords "java/lang/System" "arraycopy" 5 + 11) ≤ R.locals) (hdg : decode cc pc = .ok (.invokestatic index, 3))
    (kk : ∀ (H1 : Heap) (locs1 : List Loc), pM G (Z ++ (K ++ ((a, .inl (c1, n1, .inr (.inr (.inr (.inr (va_cpy f g i j k)))))) :: Y))) s H1 locs1 → W p l e R s m args below meth c H1 locs1 cells slots Q (F0 m (pc + 3) ls rest)) : W p l e R s m args below meth c H locs cells slots Q (F0 m pc ls (.int (nI k) :: .int (nI j) :: .ref a :: .int (nI i) :: .ref a0 :: rest)) :=
  cp_q S hml hW hl hnat hst hini hm (Z.length + K.length) ps_get t0 t1 ci hc ht0 ht1 hi hj hk h4 h5 hel hfr hlo hdg (fun H1 locs1 h => kk H1 locs1 (by rw [ps_set] at h; exact h))
end COPQ

set_option maxRecDepth 100000 in
set_option maxHeartbeats 4000000 in
theorem mX10_init_2 (l : Launch) (G : pG) (Z : va_W) (a p : Nat) (t : Tx) (hp : HT G Z p t) (h8 : t.1.length ≤ 8) (h10 : t.2.2.length ≤ 10) : Met l yX10_init_2 (ws_ yX10_init_2 cX10_init_2 2 none) ({ frames := 1, cells := 3, slots := 26, locals := 200 } : Room) (va_Pc [.ref a, .ref p] (fun U => pW G (Z ++ ((a, .inr (4, [.null, .null, .null, .int 0, .int 0])) :: [])) U)) (va_Qv (fun (u : Nat × Nat × Nat × (Nat → Option Nat) × (Nat → Option Nat) × (Nat → Int32)) => HTc G Z t u.2.2.2.1 u.2.2.2.2.1 u.2.2.2.2.2) (fun (u : Nat × Nat × Nat × (Nat → Option Nat) × (Nat → Option Nat) × (Nat → Int32)) t9 => pW G (Z ++ ((a, .inr (4, [.ref u.1, .ref u.2.1, .ref u.2.2.1, .int (nI t.1.length), .int (nI t.2.2.length)])) :: (u.1, .inl (G.2.2.1 4, 8, .inr (.inr (.inr (.inr u.2.2.2.1))))) :: (u.2.1, .inl (G.2.2.1 0, 8, .inl u.2.2.2.2.2)) :: (u.2.2.1, .inl (G.2.2.1 10, 10, .inr (.inr (.inr (.inr u.2.2.2.2.1))))) :: [])) t9) (pA G)) 3 26 (pA G) := by
  refine mw (by decide) (Nat.le_of_ble_eq_true rfl) ?_
  intro pp ee R s m below meth c ls Q hF hRt hLk hnm hR hQ hW hl
  have hx := hF.1
  have hb := hF.2.1
  have hts := hF.2.2.2.2
  have hR1 : R.frames = 1 := by rw [hR]
  have hR2 : R.cells = 3 := by rw [hR]
  have hR3 : R.slots = 26 := by rw [hR]
  have hR4 : R.locals = 200 := by rw [hR]
  have hl : lv_has ls 2 [(0, .ref a), (1, .ref p)] := hl
  have hW : pM G (Z ++ ((a, .inr (4, [.null, .null, .null, .int 0, .int 0])) :: [])) s s.heap [] := hW
  obtain ⟨anp, awp, alp, nfp, lfp, wfp, hp1, hp2, hp3, hp4, hp5⟩ := hp
  refine lv_aload_n hx hb dX10_init_2_0 rfl (lv_at hl 0 rfl) ?_
  refine W.objInit hx hb hF.2.2.2.1 (hts _ q540) (hts _ q97) (hts _ q98) rfl (by rw [hF.2.2.1]; exact hl.1) rfl dX10_init_2_1 (lb hR1 rfl) (lb hR4 rfl) ?_
  refine W.eq (g2 := F0 m 4 ls []) rfl ?_
  refine lv_aload_n hx hb dX10_init_2_4 rfl (lv_at hl 0 rfl) ?_
  refine lv_bipush (v := 8) hx hb dX10_init_2_5 (by decide) ?_
  refine nq (N' := 8) hF hW q541 (List.mem_of_getElem? (i := 0) rfl) 4 rfl (rfl) (by omega) (by omega) (by omega) dX10_init_2_7 (fun qa_1 H hW => ?_)
  have hW := hW.asc
  have hW : pM G (Z ++ ((a, .inr (4, [.null, .null, .null, .int 0, .int 0])) :: [(qa_1, .inl (G.2.2.1 4, 8, .inr (.inr (.inr (.inr (fun _ => none))))))])) s _ _ := hW
  refine pzF (Z) [] ([(qa_1, .inl (G.2.2.1 4, 8, .inr (.inr (.inr (.inr (fun _ => none))))))]) (Cn := RX10) (T := TX10) (N := 5) (ci := 4) hF hnm hW rfl in_X10 tyX10 tyX10_ok nmX10 0 (by decide) q544 rfl rfl rfl rfl rfl (by decide : 0 < 5) dX10_init_2_10 (fun H locs hW => ?_)
  have hW : pM G (Z ++ ((a, .inr (4, [.ref qa_1, .null, .null, .int 0, .int 0])) :: [(qa_1, .inl (G.2.2.1 4, 8, .inr (.inr (.inr (.inr (fun _ => none))))))])) s _ _ := hW
  refine lv_aload_n hx hb dX10_init_2_13 rfl (lv_at hl 0 rfl) ?_
  refine lv_bipush (v := 8) hx hb dX10_init_2_14 (by decide) ?_
  refine na (atype := .int) (N' := 8) (a0 := (8, .inl (fun _ => 0))) hF hW q244 rfl 0 rfl (fun _ => rfl) (rfl) (by omega) (by decide) (by omega) (by omega) dX10_init_2_16 (fun qa_2 H hW => ?_)
  have hW := hW.asc
  have hW : pM G (Z ++ ((a, .inr (4, [.ref qa_1, .null, .null, .int 0, .int 0])) :: [(qa_1, .inl (G.2.2.1 4, 8, .inr (.inr (.inr (.inr (fun _ => none)))))), (qa_2, .inl (G.2.2.1 0, 8, .inl (fun _ => 0)))])) s _ _ := hW
  refine pzF (Z) [] ([(qa_1, .inl (G.2.2.1 4, 8, .inr (.inr (.inr (.inr (fun _ => none)))))), (qa_2, .inl (G.2.2.1 0, 8, .inl (fun _ => 0)))]) (Cn := RX10) (T := TX10) (N := 5) (ci := 4) hF hnm hW rfl in_X10 tyX10 tyX10_ok nmX10 1 (by decide) q546 rfl rfl rfl rfl rfl (by decide : 1 < 5) dX10_init_2_18 (fun H locs hW => ?_)
  have hW : pM G (Z ++ ((a, .inr (4, [.ref qa_1, .ref qa_2, .null, .int 0, .int 0])) :: [(qa_1, .inl (G.2.2.1 4, 8, .inr (.inr (.inr (.inr (fun _ => none)))))), (qa_2, .inl (G.2.2.1 0, 8, .inl (fun _ => 0)))])) s _ _ := hW
  refine lv_aload_n hx hb dX10_init_2_21 rfl (lv_at hl 0 rfl) ?_
  refine lv_bipush (v := 10) hx hb dX10_init_2_22 (by decide) ?_
  refine nq (N' := 10) hF hW q542 (List.mem_of_getElem? (i := 6) rfl) 10 rfl (rfl) (by omega) (by omega) (by omega) dX10_init_2_24 (fun qa_3 H hW => ?_)
  have hW := hW.asc
  have hW : pM G (Z ++ ((a, .inr (4, [.ref qa_1, .ref qa_2, .null, .int 0, .int 0])) :: [(qa_1, .inl (G.2.2.1 4, 8, .inr (.inr (.inr (.inr (fun _ => none)))))), (qa_2, .inl (G.2.2.1 0, 8, .inl (fun _ => 0))), (qa_3, .inl (G.2.2.1 10, 10, .inr (.inr (.inr (.inr (fun _ => none))))))])) s _ _ := hW
  refine pzF (Z) [] ([(qa_1, .inl (G.2.2.1 4, 8, .inr (.inr (.inr (.inr (fun _ => none)))))), (qa_2, .inl (G.2.2.1 0, 8, .inl (fun _ => 0))), (qa_3, .inl (G.2.2.1 10, 10, .inr (.inr (.inr (.inr (fun _ => none))))))]) (Cn := RX10) (T := TX10) (N := 5) (ci := 4) hF hnm hW rfl in_X10 tyX10 tyX10_ok nmX10 2 (by decide) q549 rfl rfl rfl rfl rfl (by decide : 2 < 5) dX10_init_2_27 (fun H locs hW => ?_)
  have hW : pM G (Z ++ ((a, .inr (4, [.ref qa_1, .ref qa_2, .ref qa_3, .int 0, .int 0])) :: [(qa_1, .inl (G.2.2.1 4, 8, .inr (.inr (.inr (.inr (fun _ => none)))))), (qa_2, .inl (G.2.2.1 0, 8, .inl (fun _ => 0))), (qa_3, .inl (G.2.2.1 10, 10, .inr (.inr (.inr (.inr (fun _ => none))))))])) s _ _ := hW
  have hW : pM G (Z ++ ((a, .inr (4, [.ref qa_1, .ref qa_2, .ref qa_3, .int 0, .int 0])) :: (qa_1, .inl (G.2.2.1 4, 8, .inr (.inr (.inr (.inr (fun _ => none)))))) :: (qa_2, .inl (G.2.2.1 0, 8, .inl (fun _ => 0))) :: (qa_3, .inl (G.2.2.1 10, 10, .inr (.inr (.inr (.inr (fun _ => none)))))) :: [])) s _ _ := hW
  refine lv_aload_n hx hb dX10_init_2_30 rfl (lv_at hl 0 rfl) ?_
  refine lv_aload_n hx hb dX10_init_2_31 rfl (lv_at hl 1 rfl) ?_
  refine gt hF hW (ms_l hp1) (ci := 4) rfl in_X10 3 (by decide) q552 rfl (v := .int (nI t.1.length)) rfl dX10_init_2_32 ?_
  refine pz (Z) [] ((qa_1, .inl (G.2.2.1 4, 8, .inr (.inr (.inr (.inr (fun _ => none)))))) :: (qa_2, .inl (G.2.2.1 0, 8, .inl (fun _ => 0))) :: (qa_3, .inl (G.2.2.1 10, 10, .inr (.inr (.inr (.inr (fun _ => none)))))) :: []) (Cn := RX10) (T := TX10) (N := 5) (ci := 4) hF hW rfl in_X10 tyX10 tyX10_ok nmX10 3 (by decide) q552 rfl rfl rfl rfl (by decide : 3 < 5) dX10_init_2_35 (fun H locs hW => ?_)
  have hW : pM G (Z ++ ((a, .inr (4, [.ref qa_1, .ref qa_2, .ref qa_3, .int (nI t.1.length), .int 0])) :: (qa_1, .inl (G.2.2.1 4, 8, .inr (.inr (.inr (.inr (fun _ => none)))))) :: (qa_2, .inl (G.2.2.1 0, 8, .inl (fun _ => 0))) :: (qa_3, .inl (G.2.2.1 10, 10, .inr (.inr (.inr (.inr (fun _ => none)))))) :: [])) s _ _ := hW
  refine lv_aload_n hx hb dX10_init_2_38 rfl (lv_at hl 0 rfl) ?_
  refine lv_aload_n hx hb dX10_init_2_39 rfl (lv_at hl 1 rfl) ?_
  refine gt hF hW (ms_l hp1) (ci := 4) rfl in_X10 4 (by decide) q556 rfl (v := .int (nI t.2.2.length)) rfl dX10_init_2_40 ?_
  refine pz (Z) [] ((qa_1, .inl (G.2.2.1 4, 8, .inr (.inr (.inr (.inr (fun _ => none)))))) :: (qa_2, .inl (G.2.2.1 0, 8, .inl (fun _ => 0))) :: (qa_3, .inl (G.2.2.1 10, 10, .inr (.inr (.inr (.inr (fun _ => none)))))) :: []) (Cn := RX10) (T := TX10) (N := 5) (ci := 4) hF hW rfl in_X10 tyX10 tyX10_ok nmX10 4 (by decide) q556 rfl rfl rfl rfl (by decide : 4 < 5) dX10_init_2_43 (fun H locs hW => ?_)
  have hW : pM G (Z ++ ((a, .inr (4, [.ref qa_1, .ref qa_2, .ref qa_3, .int (nI t.1.length), .int (nI t.2.2.length)])) :: (qa_1, .inl (G.2.2.1 4, 8, .inr (.inr (.inr (.inr (fun _ => none)))))) :: (qa_2, .inl (G.2.2.1 0, 8, .inl (fun _ => 0))) :: (qa_3, .inl (G.2.2.1 10, 10, .inr (.inr (.inr (.inr (fun _ => none)))))) :: [])) s _ _ := hW
  refine lv_aload_n hx hb dX10_init_2_46 rfl (lv_at hl 1 rfl) ?_
  refine gt hF hW (ms_l hp1) (ci := 4) rfl in_X10 0 (by decide) q544 rfl (v := .ref anp) rfl dX10_init_2_47 ?_
  refine lv_iconst (v := 0) hx hb dX10_init_2_50 (by decide) ?_
  refine lv_aload_n hx hb dX10_init_2_51 rfl (lv_at hl 0 rfl) ?_
  refine gt hF hW (ms_r (List.mem_of_getElem? (i := 0) rfl)) (ci := 4) rfl in_X10 0 (by decide) q544 rfl (v := .ref qa_1) rfl dX10_init_2_52 ?_
  refine lv_iconst (v := 0) hx hb dX10_init_2_55 (by decide) ?_
  refine lv_aload_n hx hb dX10_init_2_56 rfl (lv_at hl 0 rfl) ?_
  refine gt hF hW (ms_r (List.mem_of_getElem? (i := 0) rfl)) (ci := 4) rfl in_X10 3 (by decide) q552 rfl (v := .int (nI t.1.length)) rfl dX10_init_2_57 ?_
  refine cz_q (i := 0) (j := 0) (k := t.1.length) Z [(a, .inr (4, [.ref qa_1, .ref qa_2, .ref qa_3, .int (nI t.1.length), .int (nI t.2.2.length)]))] ((qa_2, .inl (G.2.2.1 0, 8, .inl (fun _ => 0))) :: (qa_3, .inl (G.2.2.1 10, 10, .inr (.inr (.inr (.inr (fun _ => none)))))) :: []) hF hl.1.symm hW q738 q505 q504 q75 (ms_l hp2) 4 4 19 rfl rfl rfl (by omega) (by omega) (by omega) (by omega) (by omega) (fun q h y hy => by obtain ⟨sa, q1, q2⟩ := hp5.1 q h; rw [Nat.zero_add] at hy; rw [q1] at hy; cases hy; obtain ⟨b, f, z1, -⟩ := q2; exact ⟨_, ms_l z1⟩) (lb hR1 rfl) (lb hR4 rfl) dX10_init_2_60 (fun H locs hW => ?_)
  have hW : pM G (Z ++ ((a, .inr (4, [.ref qa_1, .ref qa_2, .ref qa_3, .int (nI t.1.length), .int (nI t.2.2.length)])) :: (qa_1, .inl (G.2.2.1 4, 8, .inr (.inr (.inr (.inr (va_cpy nfp (fun _ => none) 0 0 t.1.length)))))) :: (qa_2, .inl (G.2.2.1 0, 8, .inl (fun _ => 0))) :: (qa_3, .inl (G.2.2.1 10, 10, .inr (.inr (.inr (.inr (fun _ => none)))))) :: [])) s _ _ := hW
  refine lv_aload_n hx hb dX10_init_2_63 rfl (lv_at hl 1 rfl) ?_
  refine gt hF hW (ms_l hp1) (ci := 4) rfl in_X10 1 (by decide) q546 rfl (v := .ref awp) rfl dX10_init_2_64 ?_
  refine lv_iconst (v := 0) hx hb dX10_init_2_67 (by decide) ?_
  refine lv_aload_n hx hb dX10_init_2_68 rfl (lv_at hl 0 rfl) ?_
  refine gt hF hW (ms_r (List.mem_of_getElem? (i := 0) rfl)) (ci := 4) rfl in_X10 1 (by decide) q546 rfl (v := .ref qa_2) rfl dX10_init_2_69 ?_
  refine lv_iconst (v := 0) hx hb dX10_init_2_72 (by decide) ?_
  refine lv_aload_n hx hb dX10_init_2_73 rfl (lv_at hl 0 rfl) ?_
  refine gt hF hW (ms_r (List.mem_of_getElem? (i := 0) rfl)) (ci := 4) rfl in_X10 3 (by decide) q552 rfl (v := .int (nI t.1.length)) rfl dX10_init_2_74 ?_
  refine cz_i (i := 0) (j := 0) (k := t.1.length) Z [(a, .inr (4, [.ref qa_1, .ref qa_2, .ref qa_3, .int (nI t.1.length), .int (nI t.2.2.length)])), (qa_1, .inl (G.2.2.1 4, 8, .inr (.inr (.inr (.inr (va_cpy nfp (fun _ => none) 0 0 t.1.length))))))] ((qa_3, .inl (G.2.2.1 10, 10, .inr (.inr (.inr (.inr (fun _ => none)))))) :: []) hF hl.1.symm hW q738 q505 q504 q75 (ms_l hp3) 0 0 rfl rfl (by omega) (by omega) (by omega) (by omega) (by omega) (lb hR1 rfl) (lb hR4 rfl) dX10_init_2_77 (fun H locs hW => ?_)
  have hW : pM G (Z ++ ((a, .inr (4, [.ref qa_1, .ref qa_2, .ref qa_3, .int (nI t.1.length), .int (nI t.2.2.length)])) :: (qa_1, .inl (G.2.2.1 4, 8, .inr (.inr (.inr (.inr (va_cpy nfp (fun _ => none) 0 0 t.1.length)))))) :: (qa_2, .inl (G.2.2.1 0, 8, .inl (va_cpy wfp (fun _ => 0) 0 0 t.1.length))) :: (qa_3, .inl (G.2.2.1 10, 10, .inr (.inr (.inr (.inr (fun _ => none)))))) :: [])) s _ _ := hW
  refine lv_aload_n hx hb dX10_init_2_80 rfl (lv_at hl 1 rfl) ?_
  refine gt hF hW (ms_l hp1) (ci := 4) rfl in_X10 2 (by decide) q549 rfl (v := .ref alp) rfl dX10_init_2_81 ?_
  refine lv_iconst (v := 0) hx hb dX10_init_2_84 (by decide) ?_
  refine lv_aload_n hx hb dX10_init_2_85 rfl (lv_at hl 0 rfl) ?_
  refine gt hF hW (ms_r (List.mem_of_getElem? (i := 0) rfl)) (ci := 4) rfl in_X10 2 (by decide) q549 rfl (v := .ref qa_3) rfl dX10_init_2_86 ?_
  refine lv_iconst (v := 0) hx hb dX10_init_2_89 (by decide) ?_
  refine lv_aload_n hx hb dX10_init_2_90 rfl (lv_at hl 0 rfl) ?_
  refine gt hF hW (ms_r (List.mem_of_getElem? (i := 0) rfl)) (ci := 4) rfl in_X10 4 (by decide) q556 rfl (v := .int (nI t.2.2.length)) rfl dX10_init_2_91 ?_
  refine cz_q (i := 0) (j := 0) (k := t.2.2.length) Z [(a, .inr (4, [.ref qa_1, .ref qa_2, .ref qa_3, .int (nI t.1.length), .int (nI t.2.2.length)])), (qa_1, .inl (G.2.2.1 4, 8, .inr (.inr (.inr (.inr (va_cpy nfp (fun _ => none) 0 0 t.1.length)))))), (qa_2, .inl (G.2.2.1 0, 8, .inl (va_cpy wfp (fun _ => 0) 0 0 t.1.length)))] ([]) hF hl.1.symm hW q738 q505 q504 q75 (ms_l hp4) 10 10 5 rfl rfl rfl (by omega) (by omega) (by omega) (by omega) (by omega) (fun q h y hy => by obtain ⟨la, q1, q2⟩ := hp5.2.2 q h; rw [Nat.zero_add] at hy; rw [q1] at hy; cases hy; exact ⟨_, ms_l q2⟩) (lb hR1 rfl) (lb hR4 rfl) dX10_init_2_94 (fun H locs hW => ?_)
  have hW : pM G (Z ++ ((a, .inr (4, [.ref qa_1, .ref qa_2, .ref qa_3, .int (nI t.1.length), .int (nI t.2.2.length)])) :: (qa_1, .inl (G.2.2.1 4, 8, .inr (.inr (.inr (.inr (va_cpy nfp (fun _ => none) 0 0 t.1.length)))))) :: (qa_2, .inl (G.2.2.1 0, 8, .inl (va_cpy wfp (fun _ => 0) 0 0 t.1.length))) :: (qa_3, .inl (G.2.2.1 10, 10, .inr (.inr (.inr (.inr (va_cpy lfp (fun _ => none) 0 0 t.2.2.length)))))) :: [])) s _ _ := hW
  exact re_v hF hRt hLk hQ (by omega) (by omega) dX10_init_2_97 (qa_1, qa_2, qa_3, (va_cpy nfp (fun _ => none) 0 0 t.1.length), (va_cpy lfp (fun _ => none) 0 0 t.2.2.length), (va_cpy wfp (fun _ => 0) 0 0 t.1.length)) (hp5.cpy) hW
