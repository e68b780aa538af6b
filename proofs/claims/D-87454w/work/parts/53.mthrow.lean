/-! the model's reading: what may be thrown -/
theorem msort_2 {k : Nat} : msort k = 2 ↔ k = 2 := by
  unfold msort
  by_cases h0 : k = 0
  · rw [if_pos h0]; omega
  · rw [if_neg h0]
    by_cases h1 : k = 1
    · rw [if_pos h1]; omega
    · rw [if_neg h1]
      by_cases h2 : k = 2
      · rw [if_pos h2]; omega
      · rw [if_neg h2]; omega
theorem msort_1 {k : Nat} : msort k = 1 ↔ k = 0 := by
  unfold msort
  by_cases h0 : k = 0
  · rw [if_pos h0]; omega
  · rw [if_neg h0]
    by_cases h1 : k = 1
    · rw [if_pos h1]; omega
    · rw [if_neg h1]
      by_cases h2 : k = 2
      · rw [if_pos h2]; omega
      · rw [if_neg h2]; omega
theorem msort_lt (k : Nat) : msort k < 4 := by
  unfold msort
  split
  · omega
  · split
    · omega
    · split <;> omega
theorem is58 {k : Nat} : (nI (msort k) = 3 ∧ msign k = 58) ↔ k = 58 := by
  constructor
  · rintro ⟨-, h⟩
    unfold msign at h
    by_cases h1 : k = 58
    · exact h1
    · rw [if_neg h1] at h
      by_cases h2 : k = 59
      · rw [if_pos h2] at h; exact absurd h (by decide)
      · rw [if_neg h2] at h; exact absurd h (by decide)
  · intro h
    rw [h]
    decide
theorem is59 {k : Nat} : (nI (msort k) = 3 ∧ msign k = 59) ↔ k = 59 := by
  constructor
  · rintro ⟨-, h⟩
    unfold msign at h
    by_cases h1 : k = 58
    · rw [if_pos h1] at h; exact absurd h (by decide)
    · rw [if_neg h1] at h
      by_cases h2 : k = 59
      · exact h2
      · rw [if_neg h2] at h; exact absurd h (by decide)
  · intro h
    rw [h]
    decide
abbrev MX : Type := Nat × Nat × MS

set_option maxRecDepth 100000 in
set_option maxHeartbeats 4000000 in
theorem mX4_is (l : Launch) (G : pG) (ad : Nat → Nat) (x : XV) (T : va_W) (a0 : Int32) : Met l yX4_is (ws_ yX4_is cX4_is 2 (some .boolean)) ({ frames := 0, cells := 0, slots := 0, locals := 0 } : Room) (va_Pc [.ref (ad 0), .int a0] (fun U => pW G (MWl G ad x ++ T) U)) (va_Qi (fun r (_ : Unit) => (r = 1 ∧ (x.1 14 = 3 ∧ x.1 16 = a0)) ∨ (r = 0 ∧ ¬ (x.1 14 = 3 ∧ x.1 16 = a0))) (fun (u : Unit) t9 => pW G (MWl G ad x ++ T) t9) (pA G)) 0 0 (pA G) := by
  refine mw (by decide) (Nat.le_of_ble_eq_true rfl) ?_
  intro pp ee R s m below meth c ls Q hF hRt hLk hnm hR hQ hW hl
  have hx := hF.1
  have hb := hF.2.1
  have hts := hF.2.2.2.2
  have hR1 : R.frames = 0 := by rw [hR]
  have hR2 : R.cells = 0 := by rw [hR]
  have hR3 : R.slots = 0 := by rw [hR]
  have hR4 : R.locals = 0 := by rw [hR]
  have hl : lv_has ls 2 [(0, .ref (ad 0)), (1, .int a0)] := hl
  have hW : pM G (MWl G ad x ++ T) s s.heap [] := hW
  refine lv_aload_n hx hb dX4_is_0 rfl (lv_at hl 0 rfl) ?_
  refine gM0_sort hF hW q1130 (v := x.1 14) (rfl) dX4_is_1 ?_
  refine lv_iconst (v := 3) hx hb dX4_is_4 (by decide) ?_
  refine lv_icmp_ne (tgt := 20) hx hb dX4_is_5 (by decide) (fun c_5 => ?_) (fun c_5 => ?_)
  · refine lv_iconst (v := 0) hx hb dX4_is_20 (by decide) ?_
    exact re_z hF hRt hLk hQ (by omega) (by omega) (by decide) dX4_is_21 () (Or.inr ⟨rfl, fun z => c_5 z.1⟩) hW
  · refine lv_aload_n hx hb dX4_is_8 rfl (lv_at hl 0 rfl) ?_
    refine gM0_sign hF hW q1132 (v := x.1 16) (rfl) dX4_is_9 ?_
    refine lv_iload_n hx hb dX4_is_12 rfl (lv_at hl 1 rfl) ?_
    refine lv_icmp_ne (tgt := 20) hx hb dX4_is_13 (by decide) (fun c_13 => ?_) (fun c_13 => ?_)
    · refine lv_iconst (v := 0) hx hb dX4_is_20 (by decide) ?_
      exact re_z hF hRt hLk hQ (by omega) (by omega) (by decide) dX4_is_21 () (Or.inr ⟨rfl, fun z => c_13 z.2⟩) hW
    · refine lv_iconst (v := 1) hx hb dX4_is_16 (by decide) ?_
      refine lv_goto (tgt := 21) hx hb dX4_is_17 (by decide) ?_
      exact re_z hF hRt hLk hQ (by omega) (by omega) (by decide) dX4_is_21 () (Or.inl ⟨rfl, c_5, c_13⟩) hW

set_option maxRecDepth 100000 in
set_option maxHeartbeats 4000000 in
theorem mX4_wordHere_no1 (l : Launch) (G : pG) (ad : Nat → Nat) (x : XV) (T : va_W) (v : Nat → Int32) (lt0 : Int64) (k1 a1 : Nat) (hk : v 14 = nI (msort k1)) (hk2 : k1 ≠ 2) (ha1 : v 15 = nI a1) : vx_Met l yX4_wordHere (ws_ yX4_wordHere cX4_wordHere 2 (some .int)) ({ frames := 1, cells := 0, slots := 0, locals := 22 } : Room) (va_Pc [.ref (ad 0)] (fun U => pW G (MWl G ad (mdx x v lt0) ++ T) U)) (va_Qi (fun _ (_ : Unit) => False) (fun (u : Unit) t9 => pW G (MWl G ad (mdx x v lt0) ++ T) t9) (pA G)) (pX G RX5 (fun (u : MX) => u.1 = 1 ∧ u.2.1 = a1) (fun _ => ad 20) (fun u => MWl G ad (mdx (xi (xi x 21 (nI u.1)) 22 (nI u.2.1)) u.2.2.1 u.2.2.2) ++ T)) 0 0 (pA G) := by
  refine mx (by decide) (Nat.le_of_ble_eq_true rfl) ?_
  intro pp ee R s m below meth c ls Q hF hRt hLk htab hR hQx hQ hW hl
  have hx := hF.1
  have hb := hF.2.1
  have hts := hF.2.2.2.2
  have hR1 : R.frames = 1 := by rw [hR]
  have hR2 : R.cells = 0 := by rw [hR]
  have hR3 : R.slots = 0 := by rw [hR]
  have hR4 : R.locals = 22 := by rw [hR]
  have hl : lv_has ls 2 [(0, .ref (ad 0))] := hl
  have hW : pM G (MWl G ad (mdx x v lt0) ++ T) s s.heap [] := hW
  refine lv_aload_n hx hb dX4_wordHere_0 rfl (lv_at hl 0 rfl) ?_
  refine gM0_sort hF hW q1130 (v := nI (msort k1)) (hk) dX4_wordHere_1 ?_
  refine lv_iconst (v := 2) hx hb dX4_wordHere_4 (by decide) ?_
  refine lv_icmp_eq (tgt := 18) hx hb dX4_wordHere_5 (by decide) (fun c_5 => absurd (msort_2.mp (eq_eq (b := 2) c_5 (by have := msort_lt k1; omega))) hk2) (fun c_5 => ?_)
  refine lv_aload_n hx hb dX4_wordHere_8 rfl (lv_at hl 0 rfl) ?_
  refine lv_iconst (v := 1) hx hb dX4_wordHere_9 (by decide) ?_
  refine lv_aload_n hx hb dX4_wordHere_10 rfl (lv_at hl 0 rfl) ?_
  refine gM0_place hF hW q1131 (v := nI a1) (ha1) dX4_wordHere_11 ?_
  refine cl_q (ru_V (As := [.int 1, .int (nI a1)]) (rest := []) hF (mX4_stop l G ad (mdx x v lt0) T 1 (nI a1)) (cwV 2 hts (lw_V q1318 q1320 qs40 q66 q1321) rfl rfl rfl (by decide +kernel) ⟨lb hR1 rfl, lb hR4 rfl⟩) hW (List.mem_of_getElem? (i := 0) rfl) (ci := 20) rfl rfl rfl hl.1 rfl (lv_room (Nat.le_of_ble_eq_true rfl)) dX4_wordHere_14 ⟨by omega, by omega⟩) hW (fun r_1 u_2 H locs h_3 hW => ?_)
  obtain ⟨rfl, rfl⟩ : r_1 = some (ad 20) ∧ u_2 = (xi (xi (mdx x v lt0) 21 1) 22 (nI a1)) := h_3
  have hW : pM G (MWl G ad (xi (xi (mdx x v lt0) 21 1) 22 (nI a1)) ++ T) s _ _ := hW
  refine lv_eqv (y := .ref (ad 20)) rfl ?_
  refine vx_athrow hx hb dX4_wordHere_17 ?_
  exact ox htab hLk hQx (by omega) (by omega) (1, a1, v, lt0) (⟨rfl, rfl⟩) hW (List.mem_of_getElem? (i := 20) rfl) (ci := 21) rfl

set_option maxRecDepth 100000 in
set_option maxHeartbeats 4000000 in
theorem mX4_wordHere_no2 (l : Launch) (G : pG) (ad : Nat → Nat) (x : XV) (T : va_W) (v : Nat → Int32) (lt0 : Int64) (a1 : Nat) (nm : List Nat) (hk2 : v 14 = 2) (hlt : lt0 = encL nm) (hwf : WfW nm) (ha1 : v 15 = nI a1) (wds : List (List Nat)) (hw : Lrep (x.2.2.2.2.2 0) wds) (hnw : wds.length ≤ 60) (h1 : x.1 4 = nI wds.length) (hno : pix wds nm = none) (hnd : wds.Nodup) : vx_Met l yX4_wordHere (ws_ yX4_wordHere cX4_wordHere 2 (some .int)) ({ frames := 1, cells := 0, slots := 0, locals := 23 } : Room) (va_Pc [.ref (ad 0)] (fun U => pW G (MWl G ad (mdx x v lt0) ++ T) U)) (va_Qi (fun _ (_ : Unit) => False) (fun (u : Unit) t9 => pW G (MWl G ad (mdx x v lt0) ++ T) t9) (pA G)) (pX G RX5 (fun (u : MX) => u.1 = 2 ∧ u.2.1 = a1) (fun _ => ad 20) (fun u => MWl G ad (mdx (xi (xi x 21 (nI u.1)) 22 (nI u.2.1)) u.2.2.1 u.2.2.2) ++ T)) 0 0 (pA G) := by
  refine mx (by decide) (Nat.le_of_ble_eq_true rfl) ?_
  intro pp ee R s m below meth c ls Q hF hRt hLk htab hR hQx hQ hW hl
  have hx := hF.1
  have hb := hF.2.1
  have hts := hF.2.2.2.2
  have hR1 : R.frames = 1 := by rw [hR]
  have hR2 : R.cells = 0 := by rw [hR]
  have hR3 : R.slots = 0 := by rw [hR]
  have hR4 : R.locals = 23 := by rw [hR]
  have hl : lv_has ls 2 [(0, .ref (ad 0))] := hl
  have hW : pM G (MWl G ad (mdx x v lt0) ++ T) s s.heap [] := hW
  refine lv_aload_n hx hb dX4_wordHere_0 rfl (lv_at hl 0 rfl) ?_
  refine gM0_sort hF hW q1130 (v := 2) (hk2) dX4_wordHere_1 ?_
  refine lv_iconst (v := 2) hx hb dX4_wordHere_4 (by decide) ?_
  refine lv_icmp_eq (tgt := 18) hx hb dX4_wordHere_5 (by decide) (fun c_5 => ?_) (fun c_5 => absurd c_5 (by decide))
  refine lv_aload_n hx hb dX4_wordHere_18 rfl (lv_at hl 0 rfl) ?_
  refine lv_aload_n hx hb dX4_wordHere_19 rfl (lv_at hl 0 rfl) ?_
  refine gM0_letters hF hW q1133 (v := encL nm) (hlt) dX4_wordHere_20 ?_
  refine cl_i (ru_V (As := [.long (encL nm)]) (rest := []) hF (mX4_wordOf l G ad (mdx x v lt0) T wds nm hw hwf hnw h1) (cwV 1 hts (lw_V q1279 q1281 qs34 q66 q1282) rfl rfl rfl (by decide +kernel) ⟨lb hR1 rfl, lb hR4 rfl⟩) hW (List.mem_of_getElem? (i := 0) rfl) (ci := 20) rfl rfl rfl hl.1 rfl (lv_room (Nat.le_of_ble_eq_true rfl)) dX4_wordHere_23 ⟨by omega, by omega⟩) hW (fun r_ u_ H locs h_ hW => ?_)
  have hW : pM G (MWl G ad (mdx x v lt0) ++ T) s _ _ := hW
  obtain rfl : r_ = -1 := pix_r1 hnd hno h_
  refine lv_istore_n (lv' := [(1, .int (-1)), (0, .ref (ad 0))]) hx hb dX4_wordHere_26 rfl hl (by decide) rfl (fun ls hl => ?_)
  refine lv_iload_n hx hb dX4_wordHere_27 rfl (lv_at hl 0 rfl) ?_
  refine lv_iconst (v := (-1)) hx hb dX4_wordHere_28 (by decide) ?_
  refine lv_icmp_ne (tgt := 42) hx hb dX4_wordHere_29 (by decide) (fun c_29 => absurd c_29 (by decide)) (fun c_29 => ?_)
  refine lv_aload_n hx hb dX4_wordHere_32 rfl (lv_at hl 1 rfl) ?_
  refine lv_iconst (v := 2) hx hb dX4_wordHere_33 (by decide) ?_
  refine lv_aload_n hx hb dX4_wordHere_34 rfl (lv_at hl 1 rfl) ?_
  refine gM0_place hF hW q1131 (v := nI a1) (ha1) dX4_wordHere_35 ?_
  refine cl_q (ru_V (As := [.int 2, .int (nI a1)]) (rest := []) hF (mX4_stop l G ad (mdx x v lt0) T 2 (nI a1)) (cwV 2 hts (lw_V q1318 q1320 qs40 q66 q1321) rfl rfl rfl (by decide +kernel) ⟨lb hR1 rfl, lb hR4 rfl⟩) hW (List.mem_of_getElem? (i := 0) rfl) (ci := 20) rfl rfl rfl hl.1 rfl (lv_room (Nat.le_of_ble_eq_true rfl)) dX4_wordHere_38 ⟨by omega, by omega⟩) hW (fun r_1 u_2 H locs h_3 hW => ?_)
  obtain ⟨rfl, rfl⟩ : r_1 = some (ad 20) ∧ u_2 = (xi (xi (mdx x v lt0) 21 2) 22 (nI a1)) := h_3
  have hW : pM G (MWl G ad (xi (xi (mdx x v lt0) 21 2) 22 (nI a1)) ++ T) s _ _ := hW
  refine lv_eqv (y := .ref (ad 20)) rfl ?_
  refine vx_athrow hx hb dX4_wordHere_41 ?_
  exact ox htab hLk hQx (by omega) (by omega) (2, a1, v, lt0) (⟨rfl, rfl⟩) hW (List.mem_of_getElem? (i := 20) rfl) (ci := 21) rfl

set_option maxRecDepth 100000 in
set_option maxHeartbeats 4000000 in
theorem mX4_wordHere_ok (l : Launch) (G : pG) (ad : Nat → Nat) (x : XV) (T : va_W) (v : Nat → Int32) (lt0 : Int64) (e0 n k : Nat) (nm : List Nat) (hk2 : v 14 = 2) (hlt : lt0 = encL nm) (hwf : WfW nm) (hn : n ≤ 300) (hsz : v 12 = nI n) (he : v 13 = nI e0) (hen : e0 ≤ n) (wds : List (List Nat)) (hw : Lrep (x.2.2.2.2.2 0) wds) (hnw : wds.length ≤ 60) (h1 : x.1 4 = nI wds.length) (hno : pix wds nm = some k) (hnd : wds.Nodup) : Met l yX4_wordHere (ws_ yX4_wordHere cX4_wordHere 2 (some .int)) ({ frames := 2, cells := 0, slots := 0, locals := 43 } : Room) (va_Pc [.ref (ad 0)] (fun U => pW G (MWl G ad (mdx x v lt0) ++ T) U)) (va_Qi (fun r (u : MS) => r = nI k ∧ u.1 12 = nI n ∧ (tkK (x.2.1 13) n e0 ≠ 1 → u.1 13 = nI (tkE (x.2.1 13) n e0)) ∧ u.1 14 = nI (msort (tkK (x.2.1 13) n e0)) ∧ u.1 15 = nI (skA (x.2.1 13) n e0) ∧ u.1 16 = msign (tkK (x.2.1 13) n e0) ∧ (tkK (x.2.1 13) n e0 = 2 → u.2 = encL (tkW (x.2.1 13) n e0))) (fun (u : MS) t9 => pW G (MWl G ad (mdx x u.1 u.2) ++ T) t9) (pA G)) 0 0 (pA G) := by
  refine mw (by decide) (Nat.le_of_ble_eq_true rfl) ?_
  intro pp ee R s m below meth c ls Q hF hRt hLk hnm hR hQ hW hl
  have hx := hF.1
  have hb := hF.2.1
  have hts := hF.2.2.2.2
  have hR1 : R.frames = 2 := by rw [hR]
  have hR2 : R.cells = 0 := by rw [hR]
  have hR3 : R.slots = 0 := by rw [hR]
  have hR4 : R.locals = 43 := by rw [hR]
  have hl : lv_has ls 2 [(0, .ref (ad 0))] := hl
  have hW : pM G (MWl G ad (mdx x v lt0) ++ T) s s.heap [] := hW
  refine lv_aload_n hx hb dX4_wordHere_0 rfl (lv_at hl 0 rfl) ?_
  refine gM0_sort hF hW q1130 (v := 2) (hk2) dX4_wordHere_1 ?_
  refine lv_iconst (v := 2) hx hb dX4_wordHere_4 (by decide) ?_
  refine lv_icmp_eq (tgt := 18) hx hb dX4_wordHere_5 (by decide) (fun c_5 => ?_) (fun c_5 => absurd c_5 (by decide))
  refine lv_aload_n hx hb dX4_wordHere_18 rfl (lv_at hl 0 rfl) ?_
  refine lv_aload_n hx hb dX4_wordHere_19 rfl (lv_at hl 0 rfl) ?_
  refine gM0_letters hF hW q1133 (v := encL nm) (hlt) dX4_wordHere_20 ?_
  refine cl_i (ru_V (As := [.long (encL nm)]) (rest := []) hF (mX4_wordOf l G ad (mdx x v lt0) T wds nm hw hwf hnw h1) (cwV 1 hts (lw_V q1279 q1281 qs34 q66 q1282) rfl rfl rfl (by decide +kernel) ⟨lb hR1 rfl, lb hR4 rfl⟩) hW (List.mem_of_getElem? (i := 0) rfl) (ci := 20) rfl rfl rfl hl.1 rfl (lv_room (Nat.le_of_ble_eq_true rfl)) dX4_wordHere_23 ⟨by omega, by omega⟩) hW (fun r_ u_ H locs h_ hW => ?_)
  have hW : pM G (MWl G ad (mdx x v lt0) ++ T) s _ _ := hW
  obtain rfl : r_ = nI k := pix_r2 hnd hno h_
  refine lv_istore_n (lv' := [(1, .int (nI k)), (0, .ref (ad 0))]) hx hb dX4_wordHere_26 rfl hl (by decide) rfl (fun ls hl => ?_)
  refine lv_iload_n hx hb dX4_wordHere_27 rfl (lv_at hl 0 rfl) ?_
  refine lv_iconst (v := (-1)) hx hb dX4_wordHere_28 (by decide) ?_
  refine lv_icmp_ne (tgt := 42) hx hb dX4_wordHere_29 (by decide) (fun c_29 => ?_) (fun c_29 => absurd c_29 (nI_ne_m1 (by have := (pix_some hno).1; omega)))
  refine lv_aload_n hx hb dX4_wordHere_42 rfl (lv_at hl 1 rfl) ?_
  refine cl_v (ru_V (As := []) (rest := []) hF (mX4_next l G ad x T v lt0 e0 n hn hsz he hen) (cwV 0 hts (lw_V q1267 q1269 qs32 q66 q1270) rfl rfl rfl (by decide +kernel) ⟨lb hR1 rfl, lb hR4 rfl⟩) hW (List.mem_of_getElem? (i := 0) rfl) (ci := 20) rfl rfl rfl hl.1 rfl (lv_room (Nat.le_of_ble_eq_true rfl)) dX4_wordHere_43 ⟨by omega, by omega⟩) hW (fun u_ H locs h_ hW => ?_)
  obtain ⟨v1, lt1⟩ := u_
  obtain ⟨t_12, t_13, t_14, t_15, t_16, t_w⟩ := h_
  have hW : pM G (MWl G ad (mdx x v1 lt1) ++ T) s _ _ := hW
  refine lv_iload_n hx hb dX4_wordHere_46 rfl (lv_at hl 0 rfl) ?_
  exact re_i hF hRt hLk hQ (by omega) (by omega) dX4_wordHere_47 (v1, lt1) (⟨rfl, t_12, t_13, t_14, t_15, t_16, t_w⟩) hW

set_option maxRecDepth 100000 in
set_option maxHeartbeats 4000000 in
theorem mX6_init (l : Launch) (G : pG) (Z : va_W) (a : Nat) : Met l yX6_init (ws_ yX6_init cX6_init 1 none) ({ frames := 1, cells := 5, slots := 46, locals := 12 } : Room) (va_Pc [.ref a] (fun U => pW G (Z ++ ((a, .inr (22, [.int 0, .int 0, .null, .null, .null, .null, .null])) :: [])) U)) (va_Qv (fun (_ : Nat × Nat × Nat × Nat × Nat) => True) (fun (u : Nat × Nat × Nat × Nat × Nat) t9 => pW G (Z ++ ((a, .inr (22, [.int 0, .int 0, .ref u.1, .ref u.2.1, .ref u.2.2.1, .ref u.2.2.2.1, .ref u.2.2.2.2])) :: [(u.1, .inl (G.2.2.1 3, 8, .inr (.inl (fun _ => 0)))), (u.2.1, .inl (G.2.2.1 0, 8, .inl (fun _ => 0))), (u.2.2.1, .inl (G.2.2.1 0, 10, .inl (fun _ => 0))), (u.2.2.2.1, .inl (G.2.2.1 0, 10, .inl (fun _ => 0))), (u.2.2.2.2, .inl (G.2.2.1 0, 10, .inl (fun _ => 0)))])) t9) (pA G)) 5 46 (pA G) := by
  refine mw (by decide) (Nat.le_of_ble_eq_true rfl) ?_
  intro pp ee R s m below meth c ls Q hF hRt hLk hnm hR hQ hW hl
  have hx := hF.1
  have hb := hF.2.1
  have hts := hF.2.2.2.2
  have hR1 : R.frames = 1 := by rw [hR]
  have hR2 : R.cells = 5 := by rw [hR]
  have hR3 : R.slots = 46 := by rw [hR]
  have hR4 : R.locals = 12 := by rw [hR]
  have hl : lv_has ls 1 [(0, .ref a)] := hl
  have hW : pM G (Z ++ ((a, .inr (22, [.int 0, .int 0, .null, .null, .null, .null, .null])) :: [])) s s.heap [] := hW
  refine lv_aload_n hx hb dX6_init_0 rfl (lv_at hl 0 rfl) ?_
  refine W.objInit hx hb hF.2.2.2.1 (hts _ q1065) (hts _ q97) (hts _ q98) rfl (by rw [hF.2.2.1]; exact hl.1) rfl dX6_init_1 (lb hR1 rfl) (lb hR4 rfl) ?_
  refine W.eq (g2 := F0 m 4 ls []) rfl ?_
  refine lv_aload_n hx hb dX6_init_4 rfl (lv_at hl 0 rfl) ?_
  refine lv_bipush (v := 8) hx hb dX6_init_5 (by decide) ?_
  refine na (atype := .long) (N' := 8) (a0 := (8, .inr (.inl (fun _ => 0)))) hF hW q1060 rfl 3 rfl (fun _ => rfl) (rfl) (by omega) (by decide) (by omega) (by omega) dX6_init_7 (fun qa_1 H hW => ?_)
  have hW := hW.asc
  have hW : pM G (Z ++ ((a, .inr (22, [.int 0, .int 0, .null, .null, .null, .null, .null])) :: [(qa_1, .inl (G.2.2.1 3, 8, .inr (.inl (fun _ => 0))))])) s _ _ := hW
  refine pzF (Z) [] ([(qa_1, .inl (G.2.2.1 3, 8, .inr (.inl (fun _ => 0))))]) (Cn := RX6) (T := TX6) (N := 7) (ci := 22) hF hnm hW rfl in_X6 tyX6 tyX6_ok nmX6 2 (by decide) q1070 rfl rfl rfl rfl rfl (by decide : 2 < 7) dX6_init_9 (fun H locs hW => ?_)
  have hW : pM G (Z ++ ((a, .inr (22, [.int 0, .int 0, .ref qa_1, .null, .null, .null, .null])) :: [(qa_1, .inl (G.2.2.1 3, 8, .inr (.inl (fun _ => 0))))])) s _ _ := hW
  refine lv_aload_n hx hb dX6_init_12 rfl (lv_at hl 0 rfl) ?_
  refine lv_bipush (v := 8) hx hb dX6_init_13 (by decide) ?_
  refine na (atype := .int) (N' := 8) (a0 := (8, .inl (fun _ => 0))) hF hW q244 rfl 0 rfl (fun _ => rfl) (rfl) (by omega) (by decide) (by omega) (by omega) dX6_init_15 (fun qa_2 H hW => ?_)
  have hW := hW.asc
  have hW : pM G (Z ++ ((a, .inr (22, [.int 0, .int 0, .ref qa_1, .null, .null, .null, .null])) :: [(qa_1, .inl (G.2.2.1 3, 8, .inr (.inl (fun _ => 0)))), (qa_2, .inl (G.2.2.1 0, 8, .inl (fun _ => 0)))])) s _ _ := hW
  refine pzF (Z) [] ([(qa_1, .inl (G.2.2.1 3, 8, .inr (.inl (fun _ => 0)))), (qa_2, .inl (G.2.2.1 0, 8, .inl (fun _ => 0)))]) (Cn := RX6) (T := TX6) (N := 7) (ci := 22) hF hnm hW rfl in_X6 tyX6 tyX6_ok nmX6 3 (by decide) q1072 rfl rfl rfl rfl rfl (by decide : 3 < 7) dX6_init_17 (fun H locs hW => ?_)
  have hW : pM G (Z ++ ((a, .inr (22, [.int 0, .int 0, .ref qa_1, .ref qa_2, .null, .null, .null])) :: [(qa_1, .inl (G.2.2.1 3, 8, .inr (.inl (fun _ => 0)))), (qa_2, .inl (G.2.2.1 0, 8, .inl (fun _ => 0)))])) s _ _ := hW
  refine lv_aload_n hx hb dX6_init_20 rfl (lv_at hl 0 rfl) ?_
  refine lv_bipush (v := 10) hx hb dX6_init_21 (by decide) ?_
  refine na (atype := .int) (N' := 10) (a0 := (10, .inl (fun _ => 0))) hF hW q244 rfl 0 rfl (fun _ => rfl) (rfl) (by omega) (by decide) (by omega) (by omega) dX6_init_23 (fun qa_3 H hW => ?_)
  have hW := hW.asc
  have hW : pM G (Z ++ ((a, .inr (22, [.int 0, .int 0, .ref qa_1, .ref qa_2, .null, .null, .null])) :: [(qa_1, .inl (G.2.2.1 3, 8, .inr (.inl (fun _ => 0)))), (qa_2, .inl (G.2.2.1 0, 8, .inl (fun _ => 0))), (qa_3, .inl (G.2.2.1 0, 10, .inl (fun _ => 0)))])) s _ _ := hW
  refine pzF (Z) [] ([(qa_1, .inl (G.2.2.1 3, 8, .inr (.inl (fun _ => 0)))), (qa_2, .inl (G.2.2.1 0, 8, .inl (fun _ => 0))), (qa_3, .inl (G.2.2.1 0, 10, .inl (fun _ => 0)))]) (Cn := RX6) (T := TX6) (N := 7) (ci := 22) hF hnm hW rfl in_X6 tyX6 tyX6_ok nmX6 4 (by decide) q1074 rfl rfl rfl rfl rfl (by decide : 4 < 7) dX6_init_25 (fun H locs hW => ?_)
  have hW : pM G (Z ++ ((a, .inr (22, [.int 0, .int 0, .ref qa_1, .ref qa_2, .ref qa_3, .null, .null])) :: [(qa_1, .inl (G.2.2.1 3, 8, .inr (.inl (fun _ => 0)))), (qa_2, .inl (G.2.2.1 0, 8, .inl (fun _ => 0))), (qa_3, .inl (G.2.2.1 0, 10, .inl (fun _ => 0)))])) s _ _ := hW
  refine lv_aload_n hx hb dX6_init_28 rfl (lv_at hl 0 rfl) ?_
  refine lv_bipush (v := 10) hx hb dX6_init_29 (by decide) ?_
  refine na (atype := .int) (N' := 10) (a0 := (10, .inl (fun _ => 0))) hF hW q244 rfl 0 rfl (fun _ => rfl) (rfl) (by omega) (by decide) (by omega) (by omega) dX6_init_31 (fun qa_4 H hW => ?_)
  have hW := hW.asc
  have hW : pM G (Z ++ ((a, .inr (22, [.int 0, .int 0, .ref qa_1, .ref qa_2, .ref qa_3, .null, .null])) :: [(qa_1, .inl (G.2.2.1 3, 8, .inr (.inl (fun _ => 0)))), (qa_2, .inl (G.2.2.1 0, 8, .inl (fun _ => 0))), (qa_3, .inl (G.2.2.1 0, 10, .inl (fun _ => 0))), (qa_4, .inl (G.2.2.1 0, 10, .inl (fun _ => 0)))])) s _ _ := hW
  refine pzF (Z) [] ([(qa_1, .inl (G.2.2.1 3, 8, .inr (.inl (fun _ => 0)))), (qa_2, .inl (G.2.2.1 0, 8, .inl (fun _ => 0))), (qa_3, .inl (G.2.2.1 0, 10, .inl (fun _ => 0))), (qa_4, .inl (G.2.2.1 0, 10, .inl (fun _ => 0)))]) (Cn := RX6) (T := TX6) (N := 7) (ci := 22) hF hnm hW rfl in_X6 tyX6 tyX6_ok nmX6 5 (by decide) q1076 rfl rfl rfl rfl rfl (by decide : 5 < 7) dX6_init_33 (fun H locs hW => ?_)
  have hW : pM G (Z ++ ((a, .inr (22, [.int 0, .int 0, .ref qa_1, .ref qa_2, .ref qa_3, .ref qa_4, .null])) :: [(qa_1, .inl (G.2.2.1 3, 8, .inr (.inl (fun _ => 0)))), (qa_2, .inl (G.2.2.1 0, 8, .inl (fun _ => 0))), (qa_3, .inl (G.2.2.1 0, 10, .inl (fun _ => 0))), (qa_4, .inl (G.2.2.1 0, 10, .inl (fun _ => 0)))])) s _ _ := hW
  refine lv_aload_n hx hb dX6_init_36 rfl (lv_at hl 0 rfl) ?_
  refine lv_bipush (v := 10) hx hb dX6_init_37 (by decide) ?_
  refine na (atype := .int) (N' := 10) (a0 := (10, .inl (fun _ => 0))) hF hW q244 rfl 0 rfl (fun _ => rfl) (rfl) (by omega) (by decide) (by omega) (by omega) dX6_init_39 (fun qa_5 H hW => ?_)
  have hW := hW.asc
  have hW : pM G (Z ++ ((a, .inr (22, [.int 0, .int 0, .ref qa_1, .ref qa_2, .ref qa_3, .ref qa_4, .null])) :: [(qa_1, .inl (G.2.2.1 3, 8, .inr (.inl (fun _ => 0)))), (qa_2, .inl (G.2.2.1 0, 8, .inl (fun _ => 0))), (qa_3, .inl (G.2.2.1 0, 10, .inl (fun _ => 0))), (qa_4, .inl (G.2.2.1 0, 10, .inl (fun _ => 0))), (qa_5, .inl (G.2.2.1 0, 10, .inl (fun _ => 0)))])) s _ _ := hW
  refine pzF (Z) [] ([(qa_1, .inl (G.2.2.1 3, 8, .inr (.inl (fun _ => 0)))), (qa_2, .inl (G.2.2.1 0, 8, .inl (fun _ => 0))), (qa_3, .inl (G.2.2.1 0, 10, .inl (fun _ => 0))), (qa_4, .inl (G.2.2.1 0, 10, .inl (fun _ => 0))), (qa_5, .inl (G.2.2.1 0, 10, .inl (fun _ => 0)))]) (Cn := RX6) (T := TX6) (N := 7) (ci := 22) hF hnm hW rfl in_X6 tyX6 tyX6_ok nmX6 6 (by decide) q1078 rfl rfl rfl rfl rfl (by decide : 6 < 7) dX6_init_41 (fun H locs hW => ?_)
  have hW : pM G (Z ++ ((a, .inr (22, [.int 0, .int 0, .ref qa_1, .ref qa_2, .ref qa_3, .ref qa_4, .ref qa_5])) :: [(qa_1, .inl (G.2.2.1 3, 8, .inr (.inl (fun _ => 0)))), (qa_2, .inl (G.2.2.1 0, 8, .inl (fun _ => 0))), (qa_3, .inl (G.2.2.1 0, 10, .inl (fun _ => 0))), (qa_4, .inl (G.2.2.1 0, 10, .inl (fun _ => 0))), (qa_5, .inl (G.2.2.1 0, 10, .inl (fun _ => 0)))])) s _ _ := hW
  exact re_v hF hRt hLk hQ (by omega) (by omega) dX6_init_44 (qa_1, qa_2, qa_3, qa_4, qa_5) (trivial) hW
