/-! the model's word, feed, undo -/
theorem enc_ge {o : Option Nat} {n : Nat} (h : ∀ k, o = some k → k < n) (hn : n < 2147483648) : ¬ enc o < -1 := by
  cases o with
  | none => decide
  | some k =>
    intro z
    have := Int32.lt_iff_toInt_lt.mp z
    rw [show (enc (some k)) = nI k from rfl, nI_toInt (by have := h k rfl; omega), show (-1 : Int32).toInt = -1 by decide] at this
    omega
theorem enc_lt {o : Option Nat} {n : Nat} (h : ∀ k, o = some k → k < n) (hn : n < 2147483648) : enc o < nI n := by
  cases o with
  | none =>
    rw [Int32.lt_iff_toInt_lt, nI_toInt (by omega), show (enc none).toInt = -1 by decide]
    omega
  | some k => exact (nI_ltI (by have := h k rfl; omega) (by omega)).mpr (h k rfl)
theorem ge_m1 {a : Int32} (h1 : ¬ a < -1) (h2 : ¬ a = -1) : 0 ≤ a := by
  rw [Int32.le_iff_toInt_le, show (0 : Int32).toInt = 0 by decide]
  have h3 : ¬ a.toInt < -1 := fun z => h1 (Int32.lt_iff_toInt_lt.mpr (by rw [show (-1 : Int32).toInt = -1 by decide]; exact z))
  have h4 : ¬ a.toInt = -1 := fun z => h2 (Int32.toInt_inj.mp (by rw [z]; decide))
  omega
theorem ixo_out {a : Int32} {n : Nat} (h : ixo a n = none) (h1 : ¬ a < -1) : ¬ a < nI n := fun z => ix_no (ixo_no h).2 ⟨ge_m1 h1 (ixo_no h).1, z⟩
theorem nI_m1 (k : Nat) : nI (k + 1) - 1 = nI k := by rw [← nI_1, Int32.add_sub_cancel]
theorem len_add {α : Type} (l : List α) (x : α) : nI (l.length + 1) = nI (l ++ [x]).length := by rw [List.length_append]; rfl
theorem len_cut {α : Type} {l : List α} (h : l ≠ []) : nI l.length - 1 = nI l.dropLast.length := by
  obtain ⟨k, hk⟩ : ∃ k, l.length = k + 1 := ⟨l.length - 1, by have := List.length_pos_iff.mpr h; omega⟩
  rw [List.length_dropLast, hk, nI_m1]; rfl

set_option maxRecDepth 100000 in
set_option maxHeartbeats 4000000 in
theorem mX4_word (l : Launch) (G : pG) (ad : Nat → Nat) (y : XV) (W0 T : va_W) (hT : ∀ q ∈ T, q ∈ W0) (S : AS) (n9 : Nat) (hS : SOk n9 S) (hn9 : n9 ≤ 64) (hMR : MR G T y S) (a0 a1 : Int32) : Met l yX4_word (ws_ yX4_word cX4_word 6 (some .int)) ({ frames := 3, cells := 0, slots := 0, locals := 64 } : Room) (va_Pc [.ref (ad 0), .int a0, .int a1] (fun U => pW G (MWl G ad y ++ W0) U)) (va_Qi (fun r (u : XV) => r = (wordS S a0 a1).2 ∧ MR G T u (wordS S a0 a1).1) (fun (u : XV) t9 => pW G (MWl G ad u ++ W0) t9) (pA G)) 0 0 (pA G) := by
  refine mw (by decide) (Nat.le_of_ble_eq_true rfl) ?_
  intro pp ee R s m below meth c ls Q hF hRt hLk hnm hR hQ hW hl
  have hx := hF.1
  have hb := hF.2.1
  have hts := hF.2.2.2.2
  have hR1 : R.frames = 3 := by rw [hR]
  have hR2 : R.cells = 0 := by rw [hR]
  have hR3 : R.slots = 0 := by rw [hR]
  have hR4 : R.locals = 64 := by rw [hR]
  have hl : lv_has ls 6 [(0, .ref (ad 0)), (1, .int a0), (2, .int a1)] := hl
  have hW : pM G (MWl G ad y ++ W0) s s.heap [] := hW
  obtain ⟨m0, m1, m2, m3, m4, m5, m6, m7, m8, m9, m10, m11, m12, m13, m14, m15, m16, m17, m18, m19, m20, m21, m22⟩ := hMR
  have hI := hS.inv
  have b0 := hI.1.1
  have b1 := hI.2.1.1
  have b2 := hI.2.2.1.1
  have b3 := hI.2.2.2.1.1
  have b4 := hI.2.2.2.2.1.1
  have b5 := hI.2.2.2.2.2
  have b6 := hS.2.1
  have b7 := hS.2.2.1
  have b8 := hS.2.2.2.1
  have b9 := hS.2.2.2.2.1
  cases hi0 : ixo a0 (cW S.1).length with
  | none =>
    refine lv_aload_n hx hb dX4_word_0 rfl (lv_at hl 0 rfl) ?_
    refine lv_iconst (v := 0) hx hb dX4_word_1 (by decide) ?_
    refine pM0_thrown hF hW q1095 dX4_word_2 (fun H locs hW => ?_)
    have hW : pM G (MWl G ad (xi y 0 0) ++ W0) s _ _ := hW
    refine lv_iload_n hx hb dX4_word_5 rfl (lv_at hl 1 rfl) ?_
    refine lv_iconst (v := (-1)) hx hb dX4_word_6 (by decide) ?_
    refine lv_icmp_lt (tgt := 18) hx hb dX4_word_7 (by decide) (fun c_7 => ?_) (fun c_7 => ?_)
    · refine lv_aload_n hx hb dX4_word_18 rfl (lv_at hl 0 rfl) ?_
      refine lv_iconst (v := 1) hx hb dX4_word_19 (by decide) ?_
      refine cl_i (ru_V (As := [.int 1]) (rest := []) hF (mX4_refused l G ad (xi y 0 0) W0 1) (cwV 1 hts (lw_V q1255 q1257 qs29 q66 q1258) rfl rfl rfl (by decide +kernel) ⟨lb hR1 rfl, lb hR4 rfl⟩) hW (List.mem_of_getElem? (i := 0) rfl) (ci := 20) rfl rfl rfl hl.1 rfl (lv_room (Nat.le_of_ble_eq_true rfl)) dX4_word_20 ⟨by omega, by omega⟩) hW (fun r_1 u_2 H locs h_3 hW => ?_)
      obtain ⟨rfl, rfl⟩ : r_1 = (-1) ∧ u_2 = _ := h_3
      have hW : pM G (MWl G ad (xi (xi (xi y 0 0) 1 1) 2 (-1)) ++ W0) s _ _ := hW
      exact re_i hF hRt hLk hQ (by omega) (by omega) dX4_word_23 (xi (xi (xi y 0 0) 1 1) 2 (-1)) (by unfold wordS; rw [hi0]; exact ⟨rfl, ⟨m0, m1, m2, m3, m4, m5, m6, m7, m8, m9, m10, m11, m12, m13, m14, rfl, m16, rfl, m18, m19, m20, m21, m22⟩⟩) hW
    · refine lv_iload_n hx hb dX4_word_10 rfl (lv_at hl 1 rfl) ?_
      refine lv_aload_n hx hb dX4_word_11 rfl (lv_at hl 0 rfl) ?_
      refine gM0_words hF hW q1099 (v := nI (cW S.1).length) (m0) dX4_word_12 ?_
      refine lv_icmp_lt (tgt := 24) hx hb dX4_word_15 (by decide) (fun c_15 => absurd c_15 (ixo_out hi0 c_7)) (fun c_15 => ?_)
      refine lv_aload_n hx hb dX4_word_18 rfl (lv_at hl 0 rfl) ?_
      refine lv_iconst (v := 1) hx hb dX4_word_19 (by decide) ?_
      refine cl_i (ru_V (As := [.int 1]) (rest := []) hF (mX4_refused l G ad (xi y 0 0) W0 1) (cwV 1 hts (lw_V q1255 q1257 qs29 q66 q1258) rfl rfl rfl (by decide +kernel) ⟨lb hR1 rfl, lb hR4 rfl⟩) hW (List.mem_of_getElem? (i := 0) rfl) (ci := 20) rfl rfl rfl hl.1 rfl (lv_room (Nat.le_of_ble_eq_true rfl)) dX4_word_20 ⟨by omega, by omega⟩) hW (fun r_4 u_5 H locs h_6 hW => ?_)
      obtain ⟨rfl, rfl⟩ : r_4 = (-1) ∧ u_5 = _ := h_6
      have hW : pM G (MWl G ad (xi (xi (xi y 0 0) 1 1) 2 (-1)) ++ W0) s _ _ := hW
      exact re_i hF hRt hLk hQ (by omega) (by omega) dX4_word_23 (xi (xi (xi y 0 0) 1 1) 2 (-1)) (by unfold wordS; rw [hi0]; exact ⟨rfl, ⟨m0, m1, m2, m3, m4, m5, m6, m7, m8, m9, m10, m11, m12, m13, m14, rfl, m16, rfl, m18, m19, m20, m21, m22⟩⟩) hW
  | some o =>
    obtain ⟨rfl, ho⟩ := ixo_enc hi0 (by omega)
    cases hi1 : ixn a1 S.2.2.2.1 with
    | none =>
      refine lv_aload_n hx hb dX4_word_0 rfl (lv_at hl 0 rfl) ?_
      refine lv_iconst (v := 0) hx hb dX4_word_1 (by decide) ?_
      refine pM0_thrown hF hW q1095 dX4_word_2 (fun H locs hW => ?_)
      have hW : pM G (MWl G ad (xi y 0 0) ++ W0) s _ _ := hW
      refine lv_iload_n hx hb dX4_word_5 rfl (lv_at hl 1 rfl) ?_
      refine lv_iconst (v := (-1)) hx hb dX4_word_6 (by decide) ?_
      refine lv_icmp_lt (tgt := 18) hx hb dX4_word_7 (by decide) (fun c_7 => absurd c_7 (enc_ge ho (by omega))) (fun c_7 => ?_)
      refine lv_iload_n hx hb dX4_word_10 rfl (lv_at hl 1 rfl) ?_
      refine lv_aload_n hx hb dX4_word_11 rfl (lv_at hl 0 rfl) ?_
      refine gM0_words hF hW q1099 (v := nI (cW S.1).length) (m0) dX4_word_12 ?_
      refine lv_icmp_lt (tgt := 24) hx hb dX4_word_15 (by decide) (fun c_15 => ?_) (fun c_15 => absurd (enc_lt ho (by omega)) c_15)
      refine lv_aload_n hx hb dX4_word_24 rfl (lv_at hl 0 rfl) ?_
      refine lv_iload_n hx hb dX4_word_25 rfl (lv_at hl 2 rfl) ?_
      refine cl_i (ru_V (As := [.int a1]) (rest := []) hF (mX4_isTaped l G ad (xi y 0 0) W0 a1) (cwV 1 hts (lw_V q1259 q1261 qs30 q66 q1262) rfl rfl rfl (by decide +kernel) ⟨lb hR1 rfl, lb hR4 rfl⟩) hW (List.mem_of_getElem? (i := 0) rfl) (ci := 20) rfl rfl rfl hl.1 rfl (lv_room (Nat.le_of_ble_eq_true rfl)) dX4_word_26 ⟨by omega, by omega⟩) hW (fun r_ u_ H locs h_ hW => ?_)
      have hW : pM G (MWl G ad (xi y 0 0) ++ W0) s _ _ := hW
      rcases h_ with ⟨rfl, h_⟩ | ⟨rfl, h_⟩
      · exact absurd h_ (fun z => ixn_no hi1 (by omega) (by rw [show (xi y 0 0).1 11 = nI S.2.2.2.1 from m13] at z; exact z))
      · refine lv_if_ne (tgt := 38) hx hb dX4_word_29 (by decide) (fun c_29 => absurd c_29 (by decide)) (fun c_29 => ?_)
        refine lv_aload_n hx hb dX4_word_32 rfl (lv_at hl 0 rfl) ?_
        refine lv_iconst (v := 2) hx hb dX4_word_33 (by decide) ?_
        refine cl_i (ru_V (As := [.int 2]) (rest := []) hF (mX4_refused l G ad (xi y 0 0) W0 2) (cwV 1 hts (lw_V q1255 q1257 qs29 q66 q1258) rfl rfl rfl (by decide +kernel) ⟨lb hR1 rfl, lb hR4 rfl⟩) hW (List.mem_of_getElem? (i := 0) rfl) (ci := 20) rfl rfl rfl hl.1 rfl (lv_room (Nat.le_of_ble_eq_true rfl)) dX4_word_34 ⟨by omega, by omega⟩) hW (fun r_7 u_8 H locs h_9 hW => ?_)
        obtain ⟨rfl, rfl⟩ : r_7 = (-1) ∧ u_8 = _ := h_9
        have hW : pM G (MWl G ad (xi (xi (xi y 0 0) 1 2) 2 (-1)) ++ W0) s _ _ := hW
        exact re_i hF hRt hLk hQ (by omega) (by omega) dX4_word_37 (xi (xi (xi y 0 0) 1 2) 2 (-1)) (by unfold wordS; rw [hi0]; dsimp only; rw [hi1]; exact ⟨rfl, ⟨m0, m1, m2, m3, m4, m5, m6, m7, m8, m9, m10, m11, m12, m13, m14, rfl, m16, rfl, m18, m19, m20, m21, m22⟩⟩) hW
    | some k1 =>
      obtain ⟨hk1, rfl⟩ := ixn_some hi1 (by omega)
      refine lv_aload_n hx hb dX4_word_0 rfl (lv_at hl 0 rfl) ?_
      refine lv_iconst (v := 0) hx hb dX4_word_1 (by decide) ?_
      refine pM0_thrown hF hW q1095 dX4_word_2 (fun H locs hW => ?_)
      have hW : pM G (MWl G ad (xi y 0 0) ++ W0) s _ _ := hW
      refine lv_iload_n hx hb dX4_word_5 rfl (lv_at hl 1 rfl) ?_
      refine lv_iconst (v := (-1)) hx hb dX4_word_6 (by decide) ?_
      refine lv_icmp_lt (tgt := 18) hx hb dX4_word_7 (by decide) (fun c_7 => absurd c_7 (enc_ge ho (by omega))) (fun c_7 => ?_)
      refine lv_iload_n hx hb dX4_word_10 rfl (lv_at hl 1 rfl) ?_
      refine lv_aload_n hx hb dX4_word_11 rfl (lv_at hl 0 rfl) ?_
      refine gM0_words hF hW q1099 (v := nI (cW S.1).length) (m0) dX4_word_12 ?_
      refine lv_icmp_lt (tgt := 24) hx hb dX4_word_15 (by decide) (fun c_15 => ?_) (fun c_15 => absurd (enc_lt ho (by omega)) c_15)
      refine lv_aload_n hx hb dX4_word_24 rfl (lv_at hl 0 rfl) ?_
      refine lv_iload_n hx hb dX4_word_25 rfl (lv_at hl 2 rfl) ?_
      refine cl_i (ru_V (As := [.int (nI k1)]) (rest := []) hF (mX4_isTaped l G ad (xi y 0 0) W0 (nI k1)) (cwV 1 hts (lw_V q1259 q1261 qs30 q66 q1262) rfl rfl rfl (by decide +kernel) ⟨lb hR1 rfl, lb hR4 rfl⟩) hW (List.mem_of_getElem? (i := 0) rfl) (ci := 20) rfl rfl rfl hl.1 rfl (lv_room (Nat.le_of_ble_eq_true rfl)) dX4_word_26 ⟨by omega, by omega⟩) hW (fun r_ u_ H locs h_ hW => ?_)
      have hW : pM G (MWl G ad (xi y 0 0) ++ W0) s _ _ := hW
      rcases h_ with ⟨rfl, h_⟩ | ⟨rfl, h_⟩
      · refine lv_if_ne (tgt := 38) hx hb dX4_word_29 (by decide) (fun c_29 => ?_) (fun c_29 => absurd c_29 (by decide))
        refine lv_aload_n hx hb dX4_word_38 rfl (lv_at hl 0 rfl) ?_
        refine lv_iload_n hx hb dX4_word_39 rfl (lv_at hl 2 rfl) ?_
        have hn : k1 ≤ 300 := by omega
        have hW : pM G (MWl G ad (mdx (xi y 0 0) (xi y 0 0).1 ((xi y 0 0).2.2.2.2.1 0)) ++ W0) s _ _ := hW
        refine cl_v (ru_V (As := [.int (nI k1)]) (rest := []) hF (mX4_starts l G ad (xi y 0 0) W0 (xi y 0 0).1 ((xi y 0 0).2.2.2.2.1 0) k1 hn) (cwV 1 hts (lw_V q1263 q1265 qs31 q66 q1266) rfl rfl rfl (by decide +kernel) ⟨lb hR1 rfl, lb hR4 rfl⟩) hW (List.mem_of_getElem? (i := 0) rfl) (ci := 20) rfl rfl rfl hl.1 rfl (lv_room (Nat.le_of_ble_eq_true rfl)) dX4_word_40 ⟨by omega, by omega⟩) hW (fun u_ H locs h_ hW => ?_)
        obtain ⟨v1, lt1⟩ := u_
        obtain ⟨b12, b13, b14, b15, b16, bw⟩ := h_
        have hW : pM G (MWl G ad (mdx (xi (xi y 0 0) 11 0) v1 lt1) ++ W0) s _ _ := hW
        rw [show (xi y 0 0).2.1 13 = S.2.2.1 from m14] at b13 b14 bw
        have bt12 : v1 12 = nI k1 := b12
        have bt13 : tkK S.2.2.1 k1 0 ≠ 1 → v1 13 = nI (tkE S.2.2.1 k1 0) := b13
        have bt14 : v1 14 = nI (msort (tkK S.2.2.1 k1 0)) := b14
        have btw : tkK S.2.2.1 k1 0 = 2 → lt1 = encL (tkW S.2.2.1 k1 0) := bw
        refine lv_aload_n hx hb dX4_word_43 rfl (lv_at hl 0 rfl) ?_
        refine gM0_letters hF hW q1133 (v := lt1) (rfl) dX4_word_44 ?_
        refine lv_lstore_n (lv' := [(3, .long lt1), (0, .ref (ad 0)), (1, .int (enc o)), (2, .int (nI k1))]) hx hb dX4_word_47 rfl hl (by decide) rfl (fun ls hl => ?_)
        refine lv_aload_n hx hb dX4_word_48 rfl (lv_at hl 1 rfl) ?_
        refine gM0_sort hF hW q1130 (v := nI (msort (tkK S.2.2.1 k1 0))) (bt14) dX4_word_49 ?_
        refine lv_iconst (v := 2) hx hb dX4_word_52 (by decide) ?_
        refine lv_icmp_ne (tgt := 60) hx hb dX4_word_53 (by decide) (fun c_53 => ?_) (fun c_53 => ?_)
        · have hk0 : ¬ tkK S.2.2.1 k1 0 = 2 := fun z => c_53 (by rw [z]; rfl)
          refine lv_iconst (v := 0) hx hb dX4_word_60 (by decide) ?_
          refine lv_istore (lv' := [(5, .int 0), (3, .long lt1), (0, .ref (ad 0)), (1, .int (enc o)), (2, .int (nI k1))]) hx hb dX4_word_61 hl (by decide) rfl (fun ls hl => ?_)
          refine lv_iload hx hb dX4_word_63 (lv_at hl 0 rfl) ?_
          refine lv_if_eq (tgt := 72) hx hb dX4_word_65 (by decide) (fun c_65 => ?_) (fun c_65 => absurd c_65 (by decide))
          refine lv_iload hx hb dX4_word_72 (lv_at hl 0 rfl) ?_
          refine lv_if_eq (tgt := 94) hx hb dX4_word_74 (by decide) (fun c_74 => ?_) (fun c_74 => absurd c_74 (by decide))
          refine lv_aload_n hx hb dX4_word_94 rfl (lv_at hl 2 rfl) ?_
          refine lv_iconst (v := 2) hx hb dX4_word_95 (by decide) ?_
          refine cl_i (ru_V (As := [.int 2]) (rest := []) hF (mX4_refused l G ad (mdx (xi (xi y 0 0) 11 0) v1 lt1) W0 2) (cwV 1 hts (lw_V q1255 q1257 qs29 q66 q1258) rfl rfl rfl (by decide +kernel) ⟨lb hR1 rfl, lb hR4 rfl⟩) hW (List.mem_of_getElem? (i := 0) rfl) (ci := 20) rfl rfl rfl hl.1 rfl (lv_room (Nat.le_of_ble_eq_true rfl)) dX4_word_96 ⟨by omega, by omega⟩) hW (fun r_10 u_11 H locs h_12 hW => ?_)
          obtain ⟨rfl, rfl⟩ : r_10 = (-1) ∧ u_11 = _ := h_12
          have hW : pM G (MWl G ad (xi (xi (mdx (xi (xi y 0 0) 11 0) v1 lt1) 1 2) 2 (-1)) ++ W0) s _ _ := hW
          exact re_i hF hRt hLk hQ (by omega) (by omega) dX4_word_99 (xi (xi (mdx (xi (xi y 0 0) 11 0) v1 lt1) 1 2) 2 (-1)) (by unfold wordS; rw [hi0]; dsimp only; rw [hi1]; dsimp only; rw [if_neg (fun z => hk0 z.1.1)]; exact ⟨rfl, ⟨m0, m1, m2, m3, m4, m5, m6, m7, m8, m9, m10, m11, m12, rfl, m14, rfl, m16, rfl, m18, m19, m20, m21, m22⟩⟩) hW
        · have hk0 : tkK S.2.2.1 k1 0 = 2 := msort_2.mp (eq_eq (b := 2) c_53 (by have := msort_lt (tkK S.2.2.1 k1 0); omega))
          have hwf := tkW_wf hk0
          obtain rfl : lt1 = encL (tkW S.2.2.1 k1 0) := btw hk0
          refine lv_iconst (v := 1) hx hb dX4_word_56 (by decide) ?_
          refine lv_goto (tgt := 61) hx hb dX4_word_57 (by decide) ?_
          refine lv_istore (lv' := [(5, .int 1), (3, .long (encL (tkW S.2.2.1 k1 0))), (0, .ref (ad 0)), (1, .int (enc o)), (2, .int (nI k1))]) hx hb dX4_word_61 hl (by decide) rfl (fun ls hl => ?_)
          refine lv_iload hx hb dX4_word_63 (lv_at hl 0 rfl) ?_
          refine lv_if_eq (tgt := 72) hx hb dX4_word_65 (by decide) (fun c_65 => absurd c_65 (by decide)) (fun c_65 => ?_)
          refine lv_aload_n hx hb dX4_word_68 rfl (lv_at hl 2 rfl) ?_
          refine cl_v (ru_V (As := []) (rest := []) hF (mX4_next l G ad (xi (xi y 0 0) 11 0) W0 v1 (encL (tkW S.2.2.1 k1 0)) (tkE S.2.2.1 k1 0) k1 hn bt12 (bt13 (by rw [hk0]; decide)) (tkE_le (Nat.zero_le _))) (cwV 0 hts (lw_V q1267 q1269 qs32 q66 q1270) rfl rfl rfl (by decide +kernel) ⟨lb hR1 rfl, lb hR4 rfl⟩) hW (List.mem_of_getElem? (i := 0) rfl) (ci := 20) rfl rfl rfl hl.1 rfl (lv_room (Nat.le_of_ble_eq_true rfl)) dX4_word_69 ⟨by omega, by omega⟩) hW (fun u_ H locs h_ hW => ?_)
          obtain ⟨v2, lt2⟩ := u_
          obtain ⟨x12, x13, x14, x15, x16, xw⟩ := h_
          have hW : pM G (MWl G ad (mdx (xi (xi y 0 0) 11 0) v2 lt2) ++ W0) s _ _ := hW
          rw [show (xi (xi y 0 0) 11 0).2.1 13 = S.2.2.1 from m14] at x13 x14 xw
          have xt12 : v2 12 = nI k1 := x12
          have xt13 : tkK S.2.2.1 k1 (tkE S.2.2.1 k1 0) ≠ 1 → v2 13 = nI (tkE S.2.2.1 k1 (tkE S.2.2.1 k1 0)) := x13
          have xt14 : v2 14 = nI (msort (tkK S.2.2.1 k1 (tkE S.2.2.1 k1 0))) := x14
          have xtw : tkK S.2.2.1 k1 (tkE S.2.2.1 k1 0) = 2 → lt2 = encL (tkW S.2.2.1 k1 (tkE S.2.2.1 k1 0)) := xw
          refine lv_iload hx hb dX4_word_72 (lv_at hl 0 rfl) ?_
          refine lv_if_eq (tgt := 94) hx hb dX4_word_74 (by decide) (fun c_74 => absurd c_74 (by decide)) (fun c_74 => ?_)
          refine lv_aload_n hx hb dX4_word_77 rfl (lv_at hl 2 rfl) ?_
          refine gM0_sort hF hW q1130 (v := nI (msort (tkK S.2.2.1 k1 (tkE S.2.2.1 k1 0)))) (xt14) dX4_word_78 ?_
          refine lv_iconst (v := 1) hx hb dX4_word_81 (by decide) ?_
          refine lv_icmp_ne (tgt := 94) hx hb dX4_word_82 (by decide) (fun c_82 => ?_) (fun c_82 => ?_)
          · have hk1 : ¬ tkK S.2.2.1 k1 (tkE S.2.2.1 k1 0) = 0 := fun z => c_82 (by rw [z]; rfl)
            refine lv_aload_n hx hb dX4_word_94 rfl (lv_at hl 2 rfl) ?_
            refine lv_iconst (v := 2) hx hb dX4_word_95 (by decide) ?_
            refine cl_i (ru_V (As := [.int 2]) (rest := []) hF (mX4_refused l G ad (mdx (xi (xi y 0 0) 11 0) v2 lt2) W0 2) (cwV 1 hts (lw_V q1255 q1257 qs29 q66 q1258) rfl rfl rfl (by decide +kernel) ⟨lb hR1 rfl, lb hR4 rfl⟩) hW (List.mem_of_getElem? (i := 0) rfl) (ci := 20) rfl rfl rfl hl.1 rfl (lv_room (Nat.le_of_ble_eq_true rfl)) dX4_word_96 ⟨by omega, by omega⟩) hW (fun r_13 u_14 H locs h_15 hW => ?_)
            obtain ⟨rfl, rfl⟩ : r_13 = (-1) ∧ u_14 = _ := h_15
            have hW : pM G (MWl G ad (xi (xi (mdx (xi (xi y 0 0) 11 0) v2 lt2) 1 2) 2 (-1)) ++ W0) s _ _ := hW
            exact re_i hF hRt hLk hQ (by omega) (by omega) dX4_word_99 (xi (xi (mdx (xi (xi y 0 0) 11 0) v2 lt2) 1 2) 2 (-1)) (by unfold wordS; rw [hi0]; dsimp only; rw [hi1]; dsimp only; rw [if_neg (fun z => hk1 z.1.2)]; exact ⟨rfl, ⟨m0, m1, m2, m3, m4, m5, m6, m7, m8, m9, m10, m11, m12, rfl, m14, rfl, m16, rfl, m18, m19, m20, m21, m22⟩⟩) hW
          · have hk1 : tkK S.2.2.1 k1 (tkE S.2.2.1 k1 0) = 0 := msort_1.mp (eq_eq (b := 1) c_82 (by have := msort_lt (tkK S.2.2.1 k1 (tkE S.2.2.1 k1 0)); omega))
            refine lv_aload_n hx hb dX4_word_85 rfl (lv_at hl 2 rfl) ?_
            refine lv_lload_n hx hb dX4_word_86 rfl (lv_at hl 1 rfl) ?_
            refine cl_i (ru_V (As := [.long (encL (tkW S.2.2.1 k1 0))]) (rest := []) hF (mX4_wordOf l G ad (mdx (xi (xi y 0 0) 11 0) v2 lt2) W0 (cW S.1) (tkW S.2.2.1 k1 0) m1.1 hwf b0 m0) (cwV 1 hts (lw_V q1279 q1281 qs34 q66 q1282) rfl rfl rfl (by decide +kernel) ⟨lb hR1 rfl, lb hR4 rfl⟩) hW (List.mem_of_getElem? (i := 0) rfl) (ci := 20) rfl rfl rfl hl.1 rfl (lv_room (Nat.le_of_ble_eq_true rfl)) dX4_word_87 ⟨by omega, by omega⟩) hW (fun r_ u_ H locs h_ hW => ?_)
            have hW : pM G (MWl G ad (mdx (xi (xi y 0 0) 11 0) v2 lt2) ++ W0) s _ _ := hW
            cases hp : pix (cW S.1) (tkW S.2.2.1 k1 0) with
            | none =>
              obtain rfl : r_ = -1 := pix_r1 hI.1.2.2.1 hp h_
              refine lv_iconst (v := (-1)) hx hb dX4_word_90 (by decide) ?_
              refine lv_icmp_eq (tgt := 100) hx hb dX4_word_91 (by decide) (fun c_91 => ?_) (fun c_91 => absurd c_91 (by decide))
              refine lv_aload_n hx hb dX4_word_100 rfl (lv_at hl 2 rfl) ?_
              refine gM0_words hF hW q1099 (v := nI (cW S.1).length) (m0) dX4_word_101 ?_
              refine lv_bipush (v := 60) hx hb dX4_word_104 (by decide) ?_
              refine lv_icmp_ne (tgt := 115) hx hb dX4_word_106 (by decide) (fun c_106 => ?_) (fun c_106 => ?_)
              · have h60 : ¬ (cW S.1).length = 60 := fun z => c_106 (by rw [z]; rfl)
                refine lv_aload_n hx hb dX4_word_115 rfl (lv_at hl 2 rfl) ?_
                refine gM0_wordName hF hW q1105 dX4_word_116 ?_
                refine lv_aload_n hx hb dX4_word_119 rfl (lv_at hl 2 rfl) ?_
                refine gM0_words hF hW q1099 (v := nI (cW S.1).length) (m0) dX4_word_120 ?_
                refine lv_lload_n hx hb dX4_word_123 rfl (lv_at hl 1 rfl) ?_
                refine sM1 hF hW (j := (cW S.1).length) (rfl) (by omega) dX4_word_124 (fun H locs hW => ?_)
                have hW : pM G (MWl G ad (xm (mdx (xi (xi y 0 0) 11 0) v2 lt2) 0 (va_up ((mdx (xi (xi y 0 0) 11 0) v2 lt2).2.2.2.2.2 0) ((cW S.1).length) (encL (tkW S.2.2.1 k1 0)))) ++ W0) s _ _ := hW
                refine lv_aload_n hx hb dX4_word_125 rfl (lv_at hl 2 rfl) ?_
                refine gM0_wider hF hW q1106 dX4_word_126 ?_
                refine lv_aload_n hx hb dX4_word_129 rfl (lv_at hl 2 rfl) ?_
                refine gM0_words hF hW q1099 (v := nI (cW S.1).length) (m0) dX4_word_130 ?_
                refine lv_iload_n hx hb dX4_word_133 rfl (lv_at hl 3 rfl) ?_
                refine sM2 hF hW (j := (cW S.1).length) (rfl) (by omega) dX4_word_134 (fun H locs hW => ?_)
                have hW : pM G (MWl G ad (xm (xa (mdx (xi (xi y 0 0) 11 0) v2 lt2) 0 (va_up ((mdx (xi (xi y 0 0) 11 0) v2 lt2).2.1 0) ((cW S.1).length) (enc o))) 0 (va_up ((mdx (xi (xi y 0 0) 11 0) v2 lt2).2.2.2.2.2 0) ((cW S.1).length) (encL (tkW S.2.2.1 k1 0)))) ++ W0) s _ _ := hW
                refine lv_aload_n hx hb dX4_word_135 rfl (lv_at hl 2 rfl) ?_
                refine lv_iconst (v := 0) hx hb dX4_word_136 (by decide) ?_
                refine lv_iconst (v := 0) hx hb dX4_word_137 (by decide) ?_
                refine lv_null hx hb dX4_word_138 ?_
                refine cl_v (ru_V (As := [.int 0, .int 0, .null]) (rest := []) hF (mX4_act_n l G ad (xm (xa (mdx (xi (xi y 0 0) 11 0) v2 lt2) 0 (va_up ((mdx (xi (xi y 0 0) 11 0) v2 lt2).2.1 0) ((cW S.1).length) (enc o))) 0 (va_up ((mdx (xi (xi y 0 0) 11 0) v2 lt2).2.2.2.2.2 0) ((cW S.1).length) (encL (tkW S.2.2.1 k1 0)))) W0 S.2.1.length (by omega) (m11) 0 0) (cwV 3 hts (lw_V q1283 q1285 qs35 q66 q1286) rfl rfl rfl (by decide +kernel) ⟨lb hR1 rfl, lb hR4 rfl⟩) hW (List.mem_of_getElem? (i := 0) rfl) (ci := 20) rfl rfl rfl hl.1 rfl (lv_room (Nat.le_of_ble_eq_true rfl)) dX4_word_139 ⟨by omega, by omega⟩) hW (fun u_17 H locs h_18 hW => ?_)
                obtain rfl : u_17 = _ := h_18
                have hW : pM G (MWl G ad (xm (xr (xa (xa (xa (xi (mdx (xi (xi y 0 0) 11 0) v2 lt2) 10 (nI (S.2.1.length + 1))) 0 (va_up ((mdx (xi (xi y 0 0) 11 0) v2 lt2).2.1 0) ((cW S.1).length) (enc o))) 11 (va_up ((mdx (xi (xi y 0 0) 11 0) v2 lt2).2.1 11) S.2.1.length 0)) 12 (va_up ((mdx (xi (xi y 0 0) 11 0) v2 lt2).2.1 12) S.2.1.length 0)) 4 (va_up ((mdx (xi (xi y 0 0) 11 0) v2 lt2).2.2.1 4) S.2.1.length none)) 0 (va_up ((mdx (xi (xi y 0 0) 11 0) v2 lt2).2.2.2.2.2 0) ((cW S.1).length) (encL (tkW S.2.2.1 k1 0)))) ++ W0) s _ _ := hW
                refine lv_aload_n hx hb dX4_word_142 rfl (lv_at hl 2 rfl) ?_
                refine lv_dup hx hb dX4_word_143 rfl ?_
                refine gM0_words hF hW q1099 (v := nI (cW S.1).length) (m0) dX4_word_144 ?_
                refine lv_iconst (v := 1) hx hb dX4_word_147 (by decide) ?_
                refine lv_iadd hx hb dX4_word_148 ?_
                refine lv_eqi (show (nI (cW S.1).length) + 1 = nI ((cW S.1).length + 1) from nI_add ((cW S.1).length) 1) ?_
                refine pM0_words hF hW q1099 dX4_word_149 (fun H locs hW => ?_)
                have hW : pM G (MWl G ad (xm (xr (xa (xa (xa (xi (xi (mdx (xi (xi y 0 0) 11 0) v2 lt2) 4 (nI ((cW S.1).length + 1))) 10 (nI (S.2.1.length + 1))) 0 (va_up ((mdx (xi (xi y 0 0) 11 0) v2 lt2).2.1 0) ((cW S.1).length) (enc o))) 11 (va_up ((mdx (xi (xi y 0 0) 11 0) v2 lt2).2.1 11) S.2.1.length 0)) 12 (va_up ((mdx (xi (xi y 0 0) 11 0) v2 lt2).2.1 12) S.2.1.length 0)) 4 (va_up ((mdx (xi (xi y 0 0) 11 0) v2 lt2).2.2.1 4) S.2.1.length none)) 0 (va_up ((mdx (xi (xi y 0 0) 11 0) v2 lt2).2.2.2.2.2 0) ((cW S.1).length) (encL (tkW S.2.2.1 k1 0)))) ++ W0) s _ _ := hW
                refine lv_aload_n hx hb dX4_word_152 rfl (lv_at hl 2 rfl) ?_
                refine lv_aload_n hx hb dX4_word_153 rfl (lv_at hl 2 rfl) ?_
                refine gM0_words hF hW q1099 (v := nI ((cW S.1).length + 1)) (rfl) dX4_word_154 ?_
                refine lv_iconst (v := 1) hx hb dX4_word_157 (by decide) ?_
                refine lv_isub hx hb dX4_word_158 ?_
                refine lv_eqi (show (nI ((cW S.1).length + 1)) - 1 = nI (cW S.1).length from nI_m1 _) ?_
                refine cl_i (ru_V (As := [.int (nI (cW S.1).length)]) (rest := []) hF (mX4_done l G ad (xm (xr (xa (xa (xa (xi (xi (mdx (xi (xi y 0 0) 11 0) v2 lt2) 4 (nI ((cW S.1).length + 1))) 10 (nI (S.2.1.length + 1))) 0 (va_up ((mdx (xi (xi y 0 0) 11 0) v2 lt2).2.1 0) ((cW S.1).length) (enc o))) 11 (va_up ((mdx (xi (xi y 0 0) 11 0) v2 lt2).2.1 11) S.2.1.length 0)) 12 (va_up ((mdx (xi (xi y 0 0) 11 0) v2 lt2).2.1 12) S.2.1.length 0)) 4 (va_up ((mdx (xi (xi y 0 0) 11 0) v2 lt2).2.2.1 4) S.2.1.length none)) 0 (va_up ((mdx (xi (xi y 0 0) 11 0) v2 lt2).2.2.2.2.2 0) ((cW S.1).length) (encL (tkW S.2.2.1 k1 0)))) W0 (nI (cW S.1).length)) (cwV 1 hts (lw_V q1287 q1289 qs36 q66 q1290) rfl rfl rfl (by decide +kernel) ⟨lb hR1 rfl, lb hR4 rfl⟩) hW (List.mem_of_getElem? (i := 0) rfl) (ci := 20) rfl rfl rfl hl.1 rfl (lv_room (Nat.le_of_ble_eq_true rfl)) dX4_word_159 ⟨by omega, by omega⟩) hW (fun r_19 u_20 H locs h_21 hW => ?_)
                obtain ⟨rfl, rfl⟩ : r_19 = nI (cW S.1).length ∧ u_20 = _ := h_21
                have hW : pM G (MWl G ad (xm (xr (xa (xa (xa (xi (xi (xi (xi (mdx (xi (xi y 0 0) 11 0) v2 lt2) 1 0) 2 (-1)) 4 (nI ((cW S.1).length + 1))) 10 (nI (S.2.1.length + 1))) 0 (va_up ((mdx (xi (xi y 0 0) 11 0) v2 lt2).2.1 0) ((cW S.1).length) (enc o))) 11 (va_up ((mdx (xi (xi y 0 0) 11 0) v2 lt2).2.1 11) S.2.1.length 0)) 12 (va_up ((mdx (xi (xi y 0 0) 11 0) v2 lt2).2.1 12) S.2.1.length 0)) 4 (va_up ((mdx (xi (xi y 0 0) 11 0) v2 lt2).2.2.1 4) S.2.1.length none)) 0 (va_up ((mdx (xi (xi y 0 0) 11 0) v2 lt2).2.2.2.2.2 0) ((cW S.1).length) (encL (tkW S.2.2.1 k1 0)))) ++ W0) s _ _ := hW
                exact re_i hF hRt hLk hQ (by omega) (by omega) dX4_word_162 (xm (xr (xa (xa (xa (xi (xi (xi (xi (mdx (xi (xi y 0 0) 11 0) v2 lt2) 1 0) 2 (-1)) 4 (nI ((cW S.1).length + 1))) 10 (nI (S.2.1.length + 1))) 0 (va_up ((mdx (xi (xi y 0 0) 11 0) v2 lt2).2.1 0) ((cW S.1).length) (enc o))) 11 (va_up ((mdx (xi (xi y 0 0) 11 0) v2 lt2).2.1 11) S.2.1.length 0)) 12 (va_up ((mdx (xi (xi y 0 0) 11 0) v2 lt2).2.1 12) S.2.1.length 0)) 4 (va_up ((mdx (xi (xi y 0 0) 11 0) v2 lt2).2.2.1 4) S.2.1.length none)) 0 (va_up ((mdx (xi (xi y 0 0) 11 0) v2 lt2).2.2.2.2.2 0) ((cW S.1).length) (encL (tkW S.2.2.1 k1 0)))) (by unfold wordS; rw [hi0]; dsimp only; rw [hi1]; dsimp only; rw [if_pos ⟨⟨hk0, hk1⟩, hp⟩, if_neg h60]; exact ⟨rfl, ⟨len_add (cW S.1) (tkW S.2.2.1 k1 0), WrdR.add m1 hI.1.2.1 hwf, m2, m3, m4, m5, m6, m7, m8, m9, m10, rfl, ActM.add (a := (0, 0, 0, nT)) m12 (fun z => nomatch z), rfl, m14, rfl, m16, rfl, m18, m19, m20, m21, m22⟩⟩) hW
              · have h60 : (cW S.1).length = 60 := eq_eq (b := 60) c_106
                refine lv_aload_n hx hb dX4_word_109 rfl (lv_at hl 2 rfl) ?_
                refine lv_iconst (v := 3) hx hb dX4_word_110 (by decide) ?_
                refine cl_i (ru_V (As := [.int 3]) (rest := []) hF (mX4_refused l G ad (mdx (xi (xi y 0 0) 11 0) v2 lt2) W0 3) (cwV 1 hts (lw_V q1255 q1257 qs29 q66 q1258) rfl rfl rfl (by decide +kernel) ⟨lb hR1 rfl, lb hR4 rfl⟩) hW (List.mem_of_getElem? (i := 0) rfl) (ci := 20) rfl rfl rfl hl.1 rfl (lv_room (Nat.le_of_ble_eq_true rfl)) dX4_word_111 ⟨by omega, by omega⟩) hW (fun r_22 u_23 H locs h_24 hW => ?_)
                obtain ⟨rfl, rfl⟩ : r_22 = (-1) ∧ u_23 = _ := h_24
                have hW : pM G (MWl G ad (xi (xi (mdx (xi (xi y 0 0) 11 0) v2 lt2) 1 3) 2 (-1)) ++ W0) s _ _ := hW
                exact re_i hF hRt hLk hQ (by omega) (by omega) dX4_word_114 (xi (xi (mdx (xi (xi y 0 0) 11 0) v2 lt2) 1 3) 2 (-1)) (by unfold wordS; rw [hi0]; dsimp only; rw [hi1]; dsimp only; rw [if_pos ⟨⟨hk0, hk1⟩, hp⟩, if_pos h60]; exact ⟨rfl, ⟨m0, m1, m2, m3, m4, m5, m6, m7, m8, m9, m10, m11, m12, rfl, m14, rfl, m16, rfl, m18, m19, m20, m21, m22⟩⟩) hW
            | some kp =>
              obtain rfl : r_ = nI kp := pix_r2 hI.1.2.2.1 hp h_
              have hkp := (pix_some hp).1
              refine lv_iconst (v := (-1)) hx hb dX4_word_90 (by decide) ?_
              refine lv_icmp_eq (tgt := 100) hx hb dX4_word_91 (by decide) (fun c_91 => absurd c_91 (nI_ne_m1 (by omega))) (fun c_91 => ?_)
              refine lv_aload_n hx hb dX4_word_94 rfl (lv_at hl 2 rfl) ?_
              refine lv_iconst (v := 2) hx hb dX4_word_95 (by decide) ?_
              refine cl_i (ru_V (As := [.int 2]) (rest := []) hF (mX4_refused l G ad (mdx (xi (xi y 0 0) 11 0) v2 lt2) W0 2) (cwV 1 hts (lw_V q1255 q1257 qs29 q66 q1258) rfl rfl rfl (by decide +kernel) ⟨lb hR1 rfl, lb hR4 rfl⟩) hW (List.mem_of_getElem? (i := 0) rfl) (ci := 20) rfl rfl rfl hl.1 rfl (lv_room (Nat.le_of_ble_eq_true rfl)) dX4_word_96 ⟨by omega, by omega⟩) hW (fun r_25 u_26 H locs h_27 hW => ?_)
              obtain ⟨rfl, rfl⟩ : r_25 = (-1) ∧ u_26 = _ := h_27
              have hW : pM G (MWl G ad (xi (xi (mdx (xi (xi y 0 0) 11 0) v2 lt2) 1 2) 2 (-1)) ++ W0) s _ _ := hW
              exact re_i hF hRt hLk hQ (by omega) (by omega) dX4_word_99 (xi (xi (mdx (xi (xi y 0 0) 11 0) v2 lt2) 1 2) 2 (-1)) (by unfold wordS; rw [hi0]; dsimp only; rw [hi1]; dsimp only; rw [if_neg (fun z => by rw [hp] at z; exact nomatch z.2)]; exact ⟨rfl, ⟨m0, m1, m2, m3, m4, m5, m6, m7, m8, m9, m10, m11, m12, rfl, m14, rfl, m16, rfl, m18, m19, m20, m21, m22⟩⟩) hW
      · exact absurd ((by rw [show (xi y 0 0).1 11 = nI S.2.2.2.1 from m13]; exact ixn_in hi1 (by omega) : 0 ≤ (nI k1) ∧ (nI k1) ≤ (xi y 0 0).1 11)) h_

set_option maxRecDepth 100000 in
set_option maxHeartbeats 16000000 in
theorem mX4_feed (l : Launch) (G : pG) (ad : Nat → Nat) (y : XV) (W0 T : va_W) (hT : ∀ q ∈ T, q ∈ W0) (S : AS) (n9 : Nat) (hS : SOk n9 S) (hn9 : n9 ≤ 64) (hMR : MR G T y S) (a0 a1 a2 a3 a4 : Int32) : Met l yX4_feed (ws_ yX4_feed cX4_feed 8 (some .int)) ({ frames := 0, cells := 0, slots := 0, locals := 0 } : Room) (va_Pc [.ref (ad 0), .int a0, .int a1, .int a2, .int a3, .int a4] (fun U => pW G (MWl G ad y ++ W0) U)) (va_Qi (fun r (u : XV) => r = (feedS S a0 a1 a2 a3 a4).2 ∧ MR G T u (feedS S a0 a1 a2 a3 a4).1) (fun (u : XV) t9 => pW G (MWl G ad u ++ W0) t9) (pA G)) 0 0 (pA G) := by
  refine mw (by decide) (Nat.le_of_ble_eq_true rfl) ?_
  intro pp ee R s m below meth c ls Q hF hRt hLk hnm hR hQ hW hl
  have hx := hF.1
  have hb := hF.2.1
  have hts := hF.2.2.2.2
  have hR1 : R.frames = 0 := by rw [hR]
  have hR2 : R.cells = 0 := by rw [hR]
  have hR3 : R.slots = 0 := by rw [hR]
  have hR4 : R.locals = 0 := by rw [hR]
  have hl : lv_has ls 8 [(0, .ref (ad 0)), (1, .int a0), (2, .int a1), (3, .int a2), (4, .int a3), (5, .int a4)] := hl
  have hW : pM G (MWl G ad y ++ W0) s s.heap [] := hW
  obtain ⟨m0, m1, m2, m3, m4, m5, m6, m7, m8, m9, m10, m11, m12, m13, m14, m15, m16, m17, m18, m19, m20, m21, m22⟩ := hMR
  have hI := hS.inv
  have b0 := hI.1.1
  have b1 := hI.2.1.1
  have b2 := hI.2.2.1.1
  have b3 := hI.2.2.2.1.1
  have b4 := hI.2.2.2.2.1.1
  have b5 := hI.2.2.2.2.2
  have b6 := hS.2.1
  have b7 := hS.2.2.1
  have b8 := hS.2.2.2.1
  have b9 := hS.2.2.2.2.1
  obtain ⟨tp, htp⟩ : ∃ tp, tp = S.2.2.2.1 := ⟨_, rfl⟩
  rw [← htp] at m13 b7
  refine lv_aload_n hx hb dX4_feed_0 rfl (lv_at hl 0 rfl) ?_
  refine lv_iconst (v := 0) hx hb dX4_feed_1 (by decide) ?_
  refine pM0_thrown hF hW q1095 dX4_feed_2 (fun H locs hW => ?_)
  have hW : pM G (MWl G ad (xi y 0 0) ++ W0) s _ _ := hW
  refine lv_aload_n hx hb dX4_feed_5 rfl (lv_at hl 0 rfl) ?_
  refine gM0_taped hF hW q1127 (v := nI tp) (m13) dX4_feed_6 ?_
  refine lv_bipush (v := 20) hx hb dX4_feed_9 (by decide) ?_
  refine lv_iadd hx hb dX4_feed_11 ?_
  refine lv_eqi (show (nI tp) + 20 = nI (tp + 20) from nI_add tp 20) ?_
  refine lv_sipush (v := 300) hx hb dX4_feed_12 (by decide) ?_
  refine lv_icmp_le (tgt := 20) hx hb dX4_feed_15 (by decide) (fun c_15 => ?_) (fun c_15 => ?_)
  · have hle : tp + 20 ≤ 300 := le_le (b := 300) c_15
    refine lv_iconst (v := 0) hx hb dX4_feed_20 (by decide) ?_
    refine lv_istore (lv' := [(6, .int 0), (0, .ref (ad 0)), (1, .int a0), (2, .int a1), (3, .int a2), (4, .int a3), (5, .int a4)]) hx hb dX4_feed_21 hl (by decide) rfl (fun ls hl => ?_)
    refine lv_iload hx hb dX4_feed_23 (lv_at hl 0 rfl) ?_
    refine lv_bipush (v := 20) hx hb dX4_feed_25 (by decide) ?_
    refine lv_icmp_ge (tgt := 117) hx hb dX4_feed_27 (by decide) (fun c_27 => absurd c_27 (by decide)) (fun c_27 => ?_)
    refine lv_iload hx hb dX4_feed_30 (lv_at hl 0 rfl) ?_
    refine lv_iconst (v := 4) hx hb dX4_feed_32 (by decide) ?_
    refine lv_icmp_ge (tgt := 40) hx hb dX4_feed_33 (by decide) (fun c_33 => absurd c_33 (by decide)) (fun c_33 => ?_)
    refine lv_iload_n hx hb dX4_feed_36 rfl (lv_at hl 2 rfl) ?_
    refine lv_goto (tgt := 76) hx hb dX4_feed_37 (by decide) ?_
    refine lv_istore (lv' := [(7, .int a0), (6, .int 0), (0, .ref (ad 0)), (1, .int a0), (2, .int a1), (3, .int a2), (4, .int a3), (5, .int a4)]) hx hb dX4_feed_76 hl (by decide) rfl (fun ls hl => ?_)
    refine lv_aload_n hx hb dX4_feed_78 rfl (lv_at hl 2 rfl) ?_
    refine gM0_tape hF hW q1126 dX4_feed_79 ?_
    refine lv_aload_n hx hb dX4_feed_82 rfl (lv_at hl 2 rfl) ?_
    refine gM0_taped hF hW q1127 (v := nI tp) (m13) dX4_feed_83 ?_
    refine lv_iload hx hb dX4_feed_86 (lv_at hl 0 rfl) ?_
    refine lv_bipush (v := 24) hx hb dX4_feed_88 (by decide) ?_
    refine lv_bipush (v := 8) hx hb dX4_feed_90 (by decide) ?_
    refine lv_iload hx hb dX4_feed_92 (lv_at hl 1 rfl) ?_
    refine lv_iconst (v := 4) hx hb dX4_feed_94 (by decide) ?_
    refine lv_irem hx hb dX4_feed_95 (by decide) ?_
    refine lv_eqi (show 0 - 0 / 4 * 4 = 0 from by decide) ?_
    refine lv_imul hx hb dX4_feed_96 ?_
    refine lv_eqi (show 8 * 0 = 0 from by decide) ?_
    refine lv_isub hx hb dX4_feed_97 ?_
    refine lv_eqi (show 24 - 0 = 24 from by decide) ?_
    refine lv_ishr hx hb dX4_feed_98 ?_
    refine lv_i2b hx hb dX4_feed_99 rfl ?_
    refine sM21 hF hW (j := tp) (rfl) (by omega) dX4_feed_100 (fun H locs hW => ?_)
    have hW : pM G (MWl G ad (xa (xi y 0 0) 13 (va_up (y.2.1 13) tp (vp_nar .byte ((a0 >>> (24 &&& 31)).toInt8.toInt32)))) ++ W0) s _ _ := hW
    refine lv_aload_n hx hb dX4_feed_101 rfl (lv_at hl 2 rfl) ?_
    refine lv_dup hx hb dX4_feed_102 rfl ?_
    refine gM0_taped hF hW q1127 (v := nI tp) (m13) dX4_feed_103 ?_
    refine lv_iconst (v := 1) hx hb dX4_feed_106 (by decide) ?_
    refine lv_iadd hx hb dX4_feed_107 ?_
    refine lv_eqi (show (nI tp) + 1 = nI (tp + 1) from nI_add tp 1) ?_
    refine pM0_taped hF hW q1127 dX4_feed_108 (fun H locs hW => ?_)
    have hW : pM G (MWl G ad (xa (xi (xi y 0 0) 11 (nI (tp + 1))) 13 (va_up (y.2.1 13) tp (vp_nar .byte ((a0 >>> (24 &&& 31)).toInt8.toInt32)))) ++ W0) s _ _ := hW
    refine lv_iinc (v := 1) (lv' := [(6, .int 1), (7, .int a0), (0, .ref (ad 0)), (1, .int a0), (2, .int a1), (3, .int a2), (4, .int a3), (5, .int a4)]) hx hb dX4_feed_111 hl (k := 1) rfl (by decide) (by decide) rfl (fun ls hl => ?_)
    refine lv_goto (tgt := 23) hx hb dX4_feed_114 (by decide) ?_
    refine lv_iload hx hb dX4_feed_23 (lv_at hl 0 rfl) ?_
    refine lv_bipush (v := 20) hx hb dX4_feed_25 (by decide) ?_
    refine lv_icmp_ge (tgt := 117) hx hb dX4_feed_27 (by decide) (fun c_27 => absurd c_27 (by decide)) (fun c_27 => ?_)
    refine lv_iload hx hb dX4_feed_30 (lv_at hl 0 rfl) ?_
    refine lv_iconst (v := 4) hx hb dX4_feed_32 (by decide) ?_
    refine lv_icmp_ge (tgt := 40) hx hb dX4_feed_33 (by decide) (fun c_33 => absurd c_33 (by decide)) (fun c_33 => ?_)
    refine lv_iload_n hx hb dX4_feed_36 rfl (lv_at hl 3 rfl) ?_
    refine lv_goto (tgt := 76) hx hb dX4_feed_37 (by decide) ?_
    refine lv_istore (lv' := [(7, .int a0), (6, .int 1), (0, .ref (ad 0)), (1, .int a0), (2, .int a1), (3, .int a2), (4, .int a3), (5, .int a4)]) hx hb dX4_feed_76 hl (by decide) rfl (fun ls hl => ?_)
    refine lv_aload_n hx hb dX4_feed_78 rfl (lv_at hl 2 rfl) ?_
    refine gM0_tape hF hW q1126 dX4_feed_79 ?_
    refine lv_aload_n hx hb dX4_feed_82 rfl (lv_at hl 2 rfl) ?_
    refine gM0_taped hF hW q1127 (v := nI (tp + 1)) (rfl) dX4_feed_83 ?_
    refine lv_iload hx hb dX4_feed_86 (lv_at hl 0 rfl) ?_
    refine lv_bipush (v := 24) hx hb dX4_feed_88 (by decide) ?_
    refine lv_bipush (v := 8) hx hb dX4_feed_90 (by decide) ?_
    refine lv_iload hx hb dX4_feed_92 (lv_at hl 1 rfl) ?_
    refine lv_iconst (v := 4) hx hb dX4_feed_94 (by decide) ?_
    refine lv_irem hx hb dX4_feed_95 (by decide) ?_
    refine lv_eqi (show 1 - 1 / 4 * 4 = 1 from by decide) ?_
    refine lv_imul hx hb dX4_feed_96 ?_
    refine lv_eqi (show 8 * 1 = 8 from by decide) ?_
    refine lv_isub hx hb dX4_feed_97 ?_
    refine lv_eqi (show 24 - 8 = 16 from by decide) ?_
    refine lv_ishr hx hb dX4_feed_98 ?_
    refine lv_i2b hx hb dX4_feed_99 rfl ?_
    refine sM21 hF hW (j := (tp + 1)) (rfl) (by omega) dX4_feed_100 (fun H locs hW => ?_)
    have hW : pM G (MWl G ad (xa (xi (xi y 0 0) 11 (nI (tp + 1))) 13 (va_up (va_up (y.2.1 13) tp (vp_nar .byte ((a0 >>> (24 &&& 31)).toInt8.toInt32))) (tp + 1) (vp_nar .byte ((a0 >>> (16 &&& 31)).toInt8.toInt32)))) ++ W0) s _ _ := hW
    refine lv_aload_n hx hb dX4_feed_101 rfl (lv_at hl 2 rfl) ?_
    refine lv_dup hx hb dX4_feed_102 rfl ?_
    refine gM0_taped hF hW q1127 (v := nI (tp + 1)) (rfl) dX4_feed_103 ?_
    refine lv_iconst (v := 1) hx hb dX4_feed_106 (by decide) ?_
    refine lv_iadd hx hb dX4_feed_107 ?_
    refine lv_eqi (show (nI (tp + 1)) + 1 = nI ((tp + 1) + 1) from nI_add (tp + 1) 1) ?_
    refine pM0_taped hF hW q1127 dX4_feed_108 (fun H locs hW => ?_)
    have hW : pM G (MWl G ad (xa (xi (xi y 0 0) 11 (nI ((tp + 1) + 1))) 13 (va_up (va_up (y.2.1 13) tp (vp_nar .byte ((a0 >>> (24 &&& 31)).toInt8.toInt32))) (tp + 1) (vp_nar .byte ((a0 >>> (16 &&& 31)).toInt8.toInt32)))) ++ W0) s _ _ := hW
    refine lv_iinc (v := 2) (lv' := [(6, .int 2), (7, .int a0), (0, .ref (ad 0)), (1, .int a0), (2, .int a1), (3, .int a2), (4, .int a3), (5, .int a4)]) hx hb dX4_feed_111 hl (k := 1) rfl (by decide) (by decide) rfl (fun ls hl => ?_)
    refine lv_goto (tgt := 23) hx hb dX4_feed_114 (by decide) ?_
    refine lv_iload hx hb dX4_feed_23 (lv_at hl 0 rfl) ?_
    refine lv_bipush (v := 20) hx hb dX4_feed_25 (by decide) ?_
    refine lv_icmp_ge (tgt := 117) hx hb dX4_feed_27 (by decide) (fun c_27 => absurd c_27 (by decide)) (fun c_27 => ?_)
    refine lv_iload hx hb dX4_feed_30 (lv_at hl 0 rfl) ?_
    refine lv_iconst (v := 4) hx hb dX4_feed_32 (by decide) ?_
    refine lv_icmp_ge (tgt := 40) hx hb dX4_feed_33 (by decide) (fun c_33 => absurd c_33 (by decide)) (fun c_33 => ?_)
    refine lv_iload_n hx hb dX4_feed_36 rfl (lv_at hl 3 rfl) ?_
    refine lv_goto (tgt := 76) hx hb dX4_feed_37 (by decide) ?_
    refine lv_istore (lv' := [(7, .int a0), (6, .int 2), (0, .ref (ad 0)), (1, .int a0), (2, .int a1), (3, .int a2), (4, .int a3), (5, .int a4)]) hx hb dX4_feed_76 hl (by decide) rfl (fun ls hl => ?_)
    refine lv_aload_n hx hb dX4_feed_78 rfl (lv_at hl 2 rfl) ?_
    refine gM0_tape hF hW q1126 dX4_feed_79 ?_
    refine lv_aload_n hx hb dX4_feed_82 rfl (lv_at hl 2 rfl) ?_
    refine gM0_taped hF hW q1127 (v := nI ((tp + 1) + 1)) (rfl) dX4_feed_83 ?_
    refine lv_iload hx hb dX4_feed_86 (lv_at hl 0 rfl) ?_
    refine lv_bipush (v := 24) hx hb dX4_feed_88 (by decide) ?_
    refine lv_bipush (v := 8) hx hb dX4_feed_90 (by decide) ?_
    refine lv_iload hx hb dX4_feed_92 (lv_at hl 1 rfl) ?_
    refine lv_iconst (v := 4) hx hb dX4_feed_94 (by decide) ?_
    refine lv_irem hx hb dX4_feed_95 (by decide) ?_
    refine lv_eqi (show 2 - 2 / 4 * 4 = 2 from by decide) ?_
    refine lv_imul hx hb dX4_feed_96 ?_
    refine lv_eqi (show 8 * 2 = 16 from by decide) ?_
    refine lv_isub hx hb dX4_feed_97 ?_
    refine lv_eqi (show 24 - 16 = 8 from by decide) ?_
    refine lv_ishr hx hb dX4_feed_98 ?_
    refine lv_i2b hx hb dX4_feed_99 rfl ?_
    refine sM21 hF hW (j := ((tp + 1) + 1)) (rfl) (by omega) dX4_feed_100 (fun H locs hW => ?_)
    have hW : pM G (MWl G ad (xa (xi (xi y 0 0) 11 (nI ((tp + 1) + 1))) 13 (va_up (va_up (va_up (y.2.1 13) tp (vp_nar .byte ((a0 >>> (24 &&& 31)).toInt8.toInt32))) (tp + 1) (vp_nar .byte ((a0 >>> (16 &&& 31)).toInt8.toInt32))) ((tp + 1) + 1) (vp_nar .byte ((a0 >>> (8 &&& 31)).toInt8.toInt32)))) ++ W0) s _ _ := hW
    refine lv_aload_n hx hb dX4_feed_101 rfl (lv_at hl 2 rfl) ?_
    refine lv_dup hx hb dX4_feed_102 rfl ?_
    refine gM0_taped hF hW q1127 (v := nI ((tp + 1) + 1)) (rfl) dX4_feed_103 ?_
    refine lv_iconst (v := 1) hx hb dX4_feed_106 (by decide) ?_
    refine lv_iadd hx hb dX4_feed_107 ?_
    refine lv_eqi (show (nI ((tp + 1) + 1)) + 1 = nI (((tp + 1) + 1) + 1) from nI_add ((tp + 1) + 1) 1) ?_
    refine pM0_taped hF hW q1127 dX4_feed_108 (fun H locs hW => ?_)
    have hW : pM G (MWl G ad (xa (xi (xi y 0 0) 11 (nI (((tp + 1) + 1) + 1))) 13 (va_up (va_up (va_up (y.2.1 13) tp (vp_nar .byte ((a0 >>> (24 &&& 31)).toInt8.toInt32))) (tp + 1) (vp_nar .byte ((a0 >>> (16 &&& 31)).toInt8.toInt32))) ((tp + 1) + 1) (vp_nar .byte ((a0 >>> (8 &&& 31)).toInt8.toInt32)))) ++ W0) s _ _ := hW
    refine lv_iinc (v := 3) (lv' := [(6, .int 3), (7, .int a0), (0, .ref (ad 0)), (1, .int a0), (2, .int a1), (3, .int a2), (4, .int a3), (5, .int a4)]) hx hb dX4_feed_111 hl (k := 1) rfl (by decide) (by decide) rfl (fun ls hl => ?_)
    refine lv_goto (tgt := 23) hx hb dX4_feed_114 (by decide) ?_
    refine lv_iload hx hb dX4_feed_23 (lv_at hl 0 rfl) ?_
    refine lv_bipush (v := 20) hx hb dX4_feed_25 (by decide) ?_
    refine lv_icmp_ge (tgt := 117) hx hb dX4_feed_27 (by decide) (fun c_27 => absurd c_27 (by decide)) (fun c_27 => ?_)
    refine lv_iload hx hb dX4_feed_30 (lv_at hl 0 rfl) ?_
    refine lv_iconst (v := 4) hx hb dX4_feed_32 (by decide) ?_
    refine lv_icmp_ge (tgt := 40) hx hb dX4_feed_33 (by decide) (fun c_33 => absurd c_33 (by decide)) (fun c_33 => ?_)
    refine lv_iload_n hx hb dX4_feed_36 rfl (lv_at hl 3 rfl) ?_
    refine lv_goto (tgt := 76) hx hb dX4_feed_37 (by decide) ?_
    refine lv_istore (lv' := [(7, .int a0), (6, .int 3), (0, .ref (ad 0)), (1, .int a0), (2, .int a1), (3, .int a2), (4, .int a3), (5, .int a4)]) hx hb dX4_feed_76 hl (by decide) rfl (fun ls hl => ?_)
    refine lv_aload_n hx hb dX4_feed_78 rfl (lv_at hl 2 rfl) ?_
    refine gM0_tape hF hW q1126 dX4_feed_79 ?_
    refine lv_aload_n hx hb dX4_feed_82 rfl (lv_at hl 2 rfl) ?_
    refine gM0_taped hF hW q1127 (v := nI (((tp + 1) + 1) + 1)) (rfl) dX4_feed_83 ?_
    refine lv_iload hx hb dX4_feed_86 (lv_at hl 0 rfl) ?_
    refine lv_bipush (v := 24) hx hb dX4_feed_88 (by decide) ?_
    refine lv_bipush (v := 8) hx hb dX4_feed_90 (by decide) ?_
    refine lv_iload hx hb dX4_feed_92 (lv_at hl 1 rfl) ?_
    refine lv_iconst (v := 4) hx hb dX4_feed_94 (by decide) ?_
    refine lv_irem hx hb dX4_feed_95 (by decide) ?_
    refine lv_eqi (show 3 - 3 / 4 * 4 = 3 from by decide) ?_
    refine lv_imul hx hb dX4_feed_96 ?_
    refine lv_eqi (show 8 * 3 = 24 from by decide) ?_
    refine lv_isub hx hb dX4_feed_97 ?_
    refine lv_eqi (show 24 - 24 = 0 from by decide) ?_
    refine lv_ishr hx hb dX4_feed_98 ?_
    refine lv_i2b hx hb dX4_feed_99 rfl ?_
    refine sM21 hF hW (j := (((tp + 1) + 1) + 1)) (rfl) (by omega) dX4_feed_100 (fun H locs hW => ?_)
    have hW : pM G (MWl G ad (xa (xi (xi y 0 0) 11 (nI (((tp + 1) + 1) + 1))) 13 (va_up (va_up (va_up (va_up (y.2.1 13) tp (vp_nar .byte ((a0 >>> (24 &&& 31)).toInt8.toInt32))) (tp + 1) (vp_nar .byte ((a0 >>> (16 &&& 31)).toInt8.toInt32))) ((tp + 1) + 1) (vp_nar .byte ((a0 >>> (8 &&& 31)).toInt8.toInt32))) (((tp + 1) + 1) + 1) (vp_nar .byte ((a0 >>> (0 &&& 31)).toInt8.toInt32)))) ++ W0) s _ _ := hW
    refine lv_aload_n hx hb dX4_feed_101 rfl (lv_at hl 2 rfl) ?_
    refine lv_dup hx hb dX4_feed_102 rfl ?_
    refine gM0_taped hF hW q1127 (v := nI (((tp + 1) + 1) + 1)) (rfl) dX4_feed_103 ?_
    refine lv_iconst (v := 1) hx hb dX4_feed_106 (by decide) ?_
    refine lv_iadd hx hb dX4_feed_107 ?_
    refine lv_eqi (show (nI (((tp + 1) + 1) + 1)) + 1 = nI ((((tp + 1) + 1) + 1) + 1) from nI_add (((tp + 1) + 1) + 1) 1) ?_
    refine pM0_taped hF hW q1127 dX4_feed_108 (fun H locs hW => ?_)
    have hW : pM G (MWl G ad (xa (xi (xi y 0 0) 11 (nI ((((tp + 1) + 1) + 1) + 1))) 13 (va_up (va_up (va_up (va_up (y.2.1 13) tp (vp_nar .byte ((a0 >>> (24 &&& 31)).toInt8.toInt32))) (tp + 1) (vp_nar .byte ((a0 >>> (16 &&& 31)).toInt8.toInt32))) ((tp + 1) + 1) (vp_nar .byte ((a0 >>> (8 &&& 31)).toInt8.toInt32))) (((tp + 1) + 1) + 1) (vp_nar .byte ((a0 >>> (0 &&& 31)).toInt8.toInt32)))) ++ W0) s _ _ := hW
    refine lv_iinc (v := 4) (lv' := [(6, .int 4), (7, .int a0), (0, .ref (ad 0)), (1, .int a0), (2, .int a1), (3, .int a2), (4, .int a3), (5, .int a4)]) hx hb dX4_feed_111 hl (k := 1) rfl (by decide) (by decide) rfl (fun ls hl => ?_)
    refine lv_goto (tgt := 23) hx hb dX4_feed_114 (by decide) ?_
    refine lv_iload hx hb dX4_feed_23 (lv_at hl 0 rfl) ?_
    refine lv_bipush (v := 20) hx hb dX4_feed_25 (by decide) ?_
    refine lv_icmp_ge (tgt := 117) hx hb dX4_feed_27 (by decide) (fun c_27 => absurd c_27 (by decide)) (fun c_27 => ?_)
    refine lv_iload hx hb dX4_feed_30 (lv_at hl 0 rfl) ?_
    refine lv_iconst (v := 4) hx hb dX4_feed_32 (by decide) ?_
    refine lv_icmp_ge (tgt := 40) hx hb dX4_feed_33 (by decide) (fun c_33 => ?_) (fun c_33 => absurd c_33 (by decide))
    refine lv_iload hx hb dX4_feed_40 (lv_at hl 0 rfl) ?_
    refine lv_bipush (v := 8) hx hb dX4_feed_42 (by decide) ?_
    refine lv_icmp_ge (tgt := 51) hx hb dX4_feed_44 (by decide) (fun c_44 => absurd c_44 (by decide)) (fun c_44 => ?_)
    refine lv_iload_n hx hb dX4_feed_47 rfl (lv_at hl 4 rfl) ?_
    refine lv_goto (tgt := 76) hx hb dX4_feed_48 (by decide) ?_
    refine lv_istore (lv' := [(7, .int a1), (6, .int 4), (0, .ref (ad 0)), (1, .int a0), (2, .int a1), (3, .int a2), (4, .int a3), (5, .int a4)]) hx hb dX4_feed_76 hl (by decide) rfl (fun ls hl => ?_)
    refine lv_aload_n hx hb dX4_feed_78 rfl (lv_at hl 2 rfl) ?_
    refine gM0_tape hF hW q1126 dX4_feed_79 ?_
    refine lv_aload_n hx hb dX4_feed_82 rfl (lv_at hl 2 rfl) ?_
    refine gM0_taped hF hW q1127 (v := nI ((((tp + 1) + 1) + 1) + 1)) (rfl) dX4_feed_83 ?_
    refine lv_iload hx hb dX4_feed_86 (lv_at hl 0 rfl) ?_
    refine lv_bipush (v := 24) hx hb dX4_feed_88 (by decide) ?_
    refine lv_bipush (v := 8) hx hb dX4_feed_90 (by decide) ?_
    refine lv_iload hx hb dX4_feed_92 (lv_at hl 1 rfl) ?_
    refine lv_iconst (v := 4) hx hb dX4_feed_94 (by decide) ?_
    refine lv_irem hx hb dX4_feed_95 (by decide) ?_
    refine lv_eqi (show 4 - 4 / 4 * 4 = 0 from by decide) ?_
    refine lv_imul hx hb dX4_feed_96 ?_
    refine lv_eqi (show 8 * 0 = 0 from by decide) ?_
    refine lv_isub hx hb dX4_feed_97 ?_
    refine lv_eqi (show 24 - 0 = 24 from by decide) ?_
    refine lv_ishr hx hb dX4_feed_98 ?_
    refine lv_i2b hx hb dX4_feed_99 rfl ?_
    refine sM21 hF hW (j := ((((tp + 1) + 1) + 1) + 1)) (rfl) (by omega) dX4_feed_100 (fun H locs hW => ?_)
    have hW : pM G (MWl G ad (xa (xi (xi y 0 0) 11 (nI ((((tp + 1) + 1) + 1) + 1))) 13 (va_up (va_up (va_up (va_up (va_up (y.2.1 13) tp (vp_nar .byte ((a0 >>> (24 &&& 31)).toInt8.toInt32))) (tp + 1) (vp_nar .byte ((a0 >>> (16 &&& 31)).toInt8.toInt32))) ((tp + 1) + 1) (vp_nar .byte ((a0 >>> (8 &&& 31)).toInt8.toInt32))) (((tp + 1) + 1) + 1) (vp_nar .byte ((a0 >>> (0 &&& 31)).toInt8.toInt32))) ((((tp + 1) + 1) + 1) + 1) (vp_nar .byte ((a1 >>> (24 &&& 31)).toInt8.toInt32)))) ++ W0) s _ _ := hW
    refine lv_aload_n hx hb dX4_feed_101 rfl (lv_at hl 2 rfl) ?_
    refine lv_dup hx hb dX4_feed_102 rfl ?_
    refine gM0_taped hF hW q1127 (v := nI ((((tp + 1) + 1) + 1) + 1)) (rfl) dX4_feed_103 ?_
    refine lv_iconst (v := 1) hx hb dX4_feed_106 (by decide) ?_
    refine lv_iadd hx hb dX4_feed_107 ?_
    refine lv_eqi (show (nI ((((tp + 1) + 1) + 1) + 1)) + 1 = nI (((((tp + 1) + 1) + 1) + 1) + 1) from nI_add ((((tp + 1) + 1) + 1) + 1) 1) ?_
    refine pM0_taped hF hW q1127 dX4_feed_108 (fun H locs hW => ?_)
    have hW : pM G (MWl G ad (xa (xi (xi y 0 0) 11 (nI (((((tp + 1) + 1) + 1) + 1) + 1))) 13 (va_up (va_up (va_up (va_up (va_up (y.2.1 13) tp (vp_nar .byte ((a0 >>> (24 &&& 31)).toInt8.toInt32))) (tp + 1) (vp_nar .byte ((a0 >>> (16 &&& 31)).toInt8.toInt32))) ((tp + 1) + 1) (vp_nar .byte ((a0 >>> (8 &&& 31)).toInt8.toInt32))) (((tp + 1) + 1) + 1) (vp_nar .byte ((a0 >>> (0 &&& 31)).toInt8.toInt32))) ((((tp + 1) + 1) + 1) + 1) (vp_nar .byte ((a1 >>> (24 &&& 31)).toInt8.toInt32)))) ++ W0) s _ _ := hW
    refine lv_iinc (v := 5) (lv' := [(6, .int 5), (7, .int a1), (0, .ref (ad 0)), (1, .int a0), (2, .int a1), (3, .int a2), (4, .int a3), (5, .int a4)]) hx hb dX4_feed_111 hl (k := 1) rfl (by decide) (by decide) rfl (fun ls hl => ?_)
    refine lv_goto (tgt := 23) hx hb dX4_feed_114 (by decide) ?_
    refine lv_iload hx hb dX4_feed_23 (lv_at hl 0 rfl) ?_
    refine lv_bipush (v := 20) hx hb dX4_feed_25 (by decide) ?_
    refine lv_icmp_ge (tgt := 117) hx hb dX4_feed_27 (by decide) (fun c_27 => absurd c_27 (by decide)) (fun c_27 => ?_)
    refine lv_iload hx hb dX4_feed_30 (lv_at hl 0 rfl) ?_
    refine lv_iconst (v := 4) hx hb dX4_feed_32 (by decide) ?_
    refine lv_icmp_ge (tgt := 40) hx hb dX4_feed_33 (by decide) (fun c_33 => ?_) (fun c_33 => absurd c_33 (by decide))
    refine lv_iload hx hb dX4_feed_40 (lv_at hl 0 rfl) ?_
    refine lv_bipush (v := 8) hx hb dX4_feed_42 (by decide) ?_
    refine lv_icmp_ge (tgt := 51) hx hb dX4_feed_44 (by decide) (fun c_44 => absurd c_44 (by decide)) (fun c_44 => ?_)
    refine lv_iload_n hx hb dX4_feed_47 rfl (lv_at hl 4 rfl) ?_
    refine lv_goto (tgt := 76) hx hb dX4_feed_48 (by decide) ?_
    refine lv_istore (lv' := [(7, .int a1), (6, .int 5), (0, .ref (ad 0)), (1, .int a0), (2, .int a1), (3, .int a2), (4, .int a3), (5, .int a4)]) hx hb dX4_feed_76 hl (by decide) rfl (fun ls hl => ?_)
    refine lv_aload_n hx hb dX4_feed_78 rfl (lv_at hl 2 rfl) ?_
    refine gM0_tape hF hW q1126 dX4_feed_79 ?_
    refine lv_aload_n hx hb dX4_feed_82 rfl (lv_at hl 2 rfl) ?_
    refine gM0_taped hF hW q1127 (v := nI (((((tp + 1) + 1) + 1) + 1) + 1)) (rfl) dX4_feed_83 ?_
    refine lv_iload hx hb dX4_feed_86 (lv_at hl 0 rfl) ?_
    refine lv_bipush (v := 24) hx hb dX4_feed_88 (by decide) ?_
    refine lv_bipush (v := 8) hx hb dX4_feed_90 (by decide) ?_
    refine lv_iload hx hb dX4_feed_92 (lv_at hl 1 rfl) ?_
    refine lv_iconst (v := 4) hx hb dX4_feed_94 (by decide) ?_
    refine lv_irem hx hb dX4_feed_95 (by decide) ?_
    refine lv_eqi (show 5 - 5 / 4 * 4 = 1 from by decide) ?_
    refine lv_imul hx hb dX4_feed_96 ?_
    refine lv_eqi (show 8 * 1 = 8 from by decide) ?_
    refine lv_isub hx hb dX4_feed_97 ?_
    refine lv_eqi (show 24 - 8 = 16 from by decide) ?_
    refine lv_ishr hx hb dX4_feed_98 ?_
    refine lv_i2b hx hb dX4_feed_99 rfl ?_
    refine sM21 hF hW (j := (((((tp + 1) + 1) + 1) + 1) + 1)) (rfl) (by omega) dX4_feed_100 (fun H locs hW => ?_)
    have hW : pM G (MWl G ad (xa (xi (xi y 0 0) 11 (nI (((((tp + 1) + 1) + 1) + 1) + 1))) 13 (va_up (va_up (va_up (va_up (va_up (va_up (y.2.1 13) tp (vp_nar .byte ((a0 >>> (24 &&& 31)).toInt8.toInt32))) (tp + 1) (vp_nar .byte ((a0 >>> (16 &&& 31)).toInt8.toInt32))) ((tp + 1) + 1) (vp_nar .byte ((a0 >>> (8 &&& 31)).toInt8.toInt32))) (((tp + 1) + 1) + 1) (vp_nar .byte ((a0 >>> (0 &&& 31)).toInt8.toInt32))) ((((tp + 1) + 1) + 1) + 1) (vp_nar .byte ((a1 >>> (24 &&& 31)).toInt8.toInt32))) (((((tp + 1) + 1) + 1) + 1) + 1) (vp_nar .byte ((a1 >>> (16 &&& 31)).toInt8.toInt32)))) ++ W0) s _ _ := hW
    refine lv_aload_n hx hb dX4_feed_101 rfl (lv_at hl 2 rfl) ?_
    refine lv_dup hx hb dX4_feed_102 rfl ?_
    refine gM0_taped hF hW q1127 (v := nI (((((tp + 1) + 1) + 1) + 1) + 1)) (rfl) dX4_feed_103 ?_
    refine lv_iconst (v := 1) hx hb dX4_feed_106 (by decide) ?_
    refine lv_iadd hx hb dX4_feed_107 ?_
    refine lv_eqi (show (nI (((((tp + 1) + 1) + 1) + 1) + 1)) + 1 = nI ((((((tp + 1) + 1) + 1) + 1) + 1) + 1) from nI_add (((((tp + 1) + 1) + 1) + 1) + 1) 1) ?_
    refine pM0_taped hF hW q1127 dX4_feed_108 (fun H locs hW => ?_)
    have hW : pM G (MWl G ad (xa (xi (xi y 0 0) 11 (nI ((((((tp + 1) + 1) + 1) + 1) + 1) + 1))) 13 (va_up (va_up (va_up (va_up (va_up (va_up (y.2.1 13) tp (vp_nar .byte ((a0 >>> (24 &&& 31)).toInt8.toInt32))) (tp + 1) (vp_nar .byte ((a0 >>> (16 &&& 31)).toInt8.toInt32))) ((tp + 1) + 1) (vp_nar .byte ((a0 >>> (8 &&& 31)).toInt8.toInt32))) (((tp + 1) + 1) + 1) (vp_nar .byte ((a0 >>> (0 &&& 31)).toInt8.toInt32))) ((((tp + 1) + 1) + 1) + 1) (vp_nar .byte ((a1 >>> (24 &&& 31)).toInt8.toInt32))) (((((tp + 1) + 1) + 1) + 1) + 1) (vp_nar .byte ((a1 >>> (16 &&& 31)).toInt8.toInt32)))) ++ W0) s _ _ := hW
    refine lv_iinc (v := 6) (lv' := [(6, .int 6), (7, .int a1), (0, .ref (ad 0)), (1, .int a0), (2, .int a1), (3, .int a2), (4, .int a3), (5, .int a4)]) hx hb dX4_feed_111 hl (k := 1) rfl (by decide) (by decide) rfl (fun ls hl => ?_)
    refine lv_goto (tgt := 23) hx hb dX4_feed_114 (by decide) ?_
    refine lv_iload hx hb dX4_feed_23 (lv_at hl 0 rfl) ?_
    refine lv_bipush (v := 20) hx hb dX4_feed_25 (by decide) ?_
    refine lv_icmp_ge (tgt := 117) hx hb dX4_feed_27 (by decide) (fun c_27 => absurd c_27 (by decide)) (fun c_27 => ?_)
    refine lv_iload hx hb dX4_feed_30 (lv_at hl 0 rfl) ?_
    refine lv_iconst (v := 4) hx hb dX4_feed_32 (by decide) ?_
    refine lv_icmp_ge (tgt := 40) hx hb dX4_feed_33 (by decide) (fun c_33 => ?_) (fun c_33 => absurd c_33 (by decide))
    refine lv_iload hx hb dX4_feed_40 (lv_at hl 0 rfl) ?_
    refine lv_bipush (v := 8) hx hb dX4_feed_42 (by decide) ?_
    refine lv_icmp_ge (tgt := 51) hx hb dX4_feed_44 (by decide) (fun c_44 => absurd c_44 (by decide)) (fun c_44 => ?_)
    refine lv_iload_n hx hb dX4_feed_47 rfl (lv_at hl 4 rfl) ?_
    refine lv_goto (tgt := 76) hx hb dX4_feed_48 (by decide) ?_
    refine lv_istore (lv' := [(7, .int a1), (6, .int 6), (0, .ref (ad 0)), (1, .int a0), (2, .int a1), (3, .int a2), (4, .int a3), (5, .int a4)]) hx hb dX4_feed_76 hl (by decide) rfl (fun ls hl => ?_)
    refine lv_aload_n hx hb dX4_feed_78 rfl (lv_at hl 2 rfl) ?_
    refine gM0_tape hF hW q1126 dX4_feed_79 ?_
    refine lv_aload_n hx hb dX4_feed_82 rfl (lv_at hl 2 rfl) ?_
    refine gM0_taped hF hW q1127 (v := nI ((((((tp + 1) + 1) + 1) + 1) + 1) + 1)) (rfl) dX4_feed_83 ?_
    refine lv_iload hx hb dX4_feed_86 (lv_at hl 0 rfl) ?_
    refine lv_bipush (v := 24) hx hb dX4_feed_88 (by decide) ?_
    refine lv_bipush (v := 8) hx hb dX4_feed_90 (by decide) ?_
    refine lv_iload hx hb dX4_feed_92 (lv_at hl 1 rfl) ?_
    refine lv_iconst (v := 4) hx hb dX4_feed_94 (by decide) ?_
    refine lv_irem hx hb dX4_feed_95 (by decide) ?_
    refine lv_eqi (show 6 - 6 / 4 * 4 = 2 from by decide) ?_
    refine lv_imul hx hb dX4_feed_96 ?_
    refine lv_eqi (show 8 * 2 = 16 from by decide) ?_
    refine lv_isub hx hb dX4_feed_97 ?_
    refine lv_eqi (show 24 - 16 = 8 from by decide) ?_
    refine lv_ishr hx hb dX4_feed_98 ?_
    refine lv_i2b hx hb dX4_feed_99 rfl ?_
    refine sM21 hF hW (j := ((((((tp + 1) + 1) + 1) + 1) + 1) + 1)) (rfl) (by omega) dX4_feed_100 (fun H locs hW => ?_)
    have hW : pM G (MWl G ad (xa (xi (xi y 0 0) 11 (nI ((((((tp + 1) + 1) + 1) + 1) + 1) + 1))) 13 (va_up (va_up (va_up (va_up (va_up (va_up (va_up (y.2.1 13) tp (vp_nar .byte ((a0 >>> (24 &&& 31)).toInt8.toInt32))) (tp + 1) (vp_nar .byte ((a0 >>> (16 &&& 31)).toInt8.toInt32))) ((tp + 1) + 1) (vp_nar .byte ((a0 >>> (8 &&& 31)).toInt8.toInt32))) (((tp + 1) + 1) + 1) (vp_nar .byte ((a0 >>> (0 &&& 31)).toInt8.toInt32))) ((((tp + 1) + 1) + 1) + 1) (vp_nar .byte ((a1 >>> (24 &&& 31)).toInt8.toInt32))) (((((tp + 1) + 1) + 1) + 1) + 1) (vp_nar .byte ((a1 >>> (16 &&& 31)).toInt8.toInt32))) ((((((tp + 1) + 1) + 1) + 1) + 1) + 1) (vp_nar .byte ((a1 >>> (8 &&& 31)).toInt8.toInt32)))) ++ W0) s _ _ := hW
    refine lv_aload_n hx hb dX4_feed_101 rfl (lv_at hl 2 rfl) ?_
    refine lv_dup hx hb dX4_feed_102 rfl ?_
    refine gM0_taped hF hW q1127 (v := nI ((((((tp + 1) + 1) + 1) + 1) + 1) + 1)) (rfl) dX4_feed_103 ?_
    refine lv_iconst (v := 1) hx hb dX4_feed_106 (by decide) ?_
    refine lv_iadd hx hb dX4_feed_107 ?_
    refine lv_eqi (show (nI ((((((tp + 1) + 1) + 1) + 1) + 1) + 1)) + 1 = nI (((((((tp + 1) + 1) + 1) + 1) + 1) + 1) + 1) from nI_add ((((((tp + 1) + 1) + 1) + 1) + 1) + 1) 1) ?_
    refine pM0_taped hF hW q1127 dX4_feed_108 (fun H locs hW => ?_)
    have hW : pM G (MWl G ad (xa (xi (xi y 0 0) 11 (nI (((((((tp + 1) + 1) + 1) + 1) + 1) + 1) + 1))) 13 (va_up (va_up (va_up (va_up (va_up (va_up (va_up (y.2.1 13) tp (vp_nar .byte ((a0 >>> (24 &&& 31)).toInt8.toInt32))) (tp + 1) (vp_nar .byte ((a0 >>> (16 &&& 31)).toInt8.toInt32))) ((tp + 1) + 1) (vp_nar .byte ((a0 >>> (8 &&& 31)).toInt8.toInt32))) (((tp + 1) + 1) + 1) (vp_nar .byte ((a0 >>> (0 &&& 31)).toInt8.toInt32))) ((((tp + 1) + 1) + 1) + 1) (vp_nar .byte ((a1 >>> (24 &&& 31)).toInt8.toInt32))) (((((tp + 1) + 1) + 1) + 1) + 1) (vp_nar .byte ((a1 >>> (16 &&& 31)).toInt8.toInt32))) ((((((tp + 1) + 1) + 1) + 1) + 1) + 1) (vp_nar .byte ((a1 >>> (8 &&& 31)).toInt8.toInt32)))) ++ W0) s _ _ := hW
    refine lv_iinc (v := 7) (lv' := [(6, .int 7), (7, .int a1), (0, .ref (ad 0)), (1, .int a0), (2, .int a1), (3, .int a2), (4, .int a3), (5, .int a4)]) hx hb dX4_feed_111 hl (k := 1) rfl (by decide) (by decide) rfl (fun ls hl => ?_)
    refine lv_goto (tgt := 23) hx hb dX4_feed_114 (by decide) ?_
    refine lv_iload hx hb dX4_feed_23 (lv_at hl 0 rfl) ?_
    refine lv_bipush (v := 20) hx hb dX4_feed_25 (by decide) ?_
    refine lv_icmp_ge (tgt := 117) hx hb dX4_feed_27 (by decide) (fun c_27 => absurd c_27 (by decide)) (fun c_27 => ?_)
    refine lv_iload hx hb dX4_feed_30 (lv_at hl 0 rfl) ?_
    refine lv_iconst (v := 4) hx hb dX4_feed_32 (by decide) ?_
    refine lv_icmp_ge (tgt := 40) hx hb dX4_feed_33 (by decide) (fun c_33 => ?_) (fun c_33 => absurd c_33 (by decide))
    refine lv_iload hx hb dX4_feed_40 (lv_at hl 0 rfl) ?_
    refine lv_bipush (v := 8) hx hb dX4_feed_42 (by decide) ?_
    refine lv_icmp_ge (tgt := 51) hx hb dX4_feed_44 (by decide) (fun c_44 => absurd c_44 (by decide)) (fun c_44 => ?_)
    refine lv_iload_n hx hb dX4_feed_47 rfl (lv_at hl 4 rfl) ?_
    refine lv_goto (tgt := 76) hx hb dX4_feed_48 (by decide) ?_
    refine lv_istore (lv' := [(7, .int a1), (6, .int 7), (0, .ref (ad 0)), (1, .int a0), (2, .int a1), (3, .int a2), (4, .int a3), (5, .int a4)]) hx hb dX4_feed_76 hl (by decide) rfl (fun ls hl => ?_)
    refine lv_aload_n hx hb dX4_feed_78 rfl (lv_at hl 2 rfl) ?_
    refine gM0_tape hF hW q1126 dX4_feed_79 ?_
    refine lv_aload_n hx hb dX4_feed_82 rfl (lv_at hl 2 rfl) ?_
    refine gM0_taped hF hW q1127 (v := nI (((((((tp + 1) + 1) + 1) + 1) + 1) + 1) + 1)) (rfl) dX4_feed_83 ?_
    refine lv_iload hx hb dX4_feed_86 (lv_at hl 0 rfl) ?_
    refine lv_bipush (v := 24) hx hb dX4_feed_88 (by decide) ?_
    refine lv_bipush (v := 8) hx hb dX4_feed_90 (by decide) ?_
    refine lv_iload hx hb dX4_feed_92 (lv_at hl 1 rfl) ?_
    refine lv_iconst (v := 4) hx hb dX4_feed_94 (by decide) ?_
    refine lv_irem hx hb dX4_feed_95 (by decide) ?_
    refine lv_eqi (show 7 - 7 / 4 * 4 = 3 from by decide) ?_
    refine lv_imul hx hb dX4_feed_96 ?_
    refine lv_eqi (show 8 * 3 = 24 from by decide) ?_
    refine lv_isub hx hb dX4_feed_97 ?_
    refine lv_eqi (show 24 - 24 = 0 from by decide) ?_
    refine lv_ishr hx hb dX4_feed_98 ?_
    refine lv_i2b hx hb dX4_feed_99 rfl ?_
    refine sM21 hF hW (j := (((((((tp + 1) + 1) + 1) + 1) + 1) + 1) + 1)) (rfl) (by omega) dX4_feed_100 (fun H locs hW => ?_)
    have hW : pM G (MWl G ad (xa (xi (xi y 0 0) 11 (nI (((((((tp + 1) + 1) + 1) + 1) + 1) + 1) + 1))) 13 (va_up (va_up (va_up (va_up (va_up (va_up (va_up (va_up (y.2.1 13) tp (vp_nar .byte ((a0 >>> (24 &&& 31)).toInt8.toInt32))) (tp + 1) (vp_nar .byte ((a0 >>> (16 &&& 31)).toInt8.toInt32))) ((tp + 1) + 1) (vp_nar .byte ((a0 >>> (8 &&& 31)).toInt8.toInt32))) (((tp + 1) + 1) + 1) (vp_nar .byte ((a0 >>> (0 &&& 31)).toInt8.toInt32))) ((((tp + 1) + 1) + 1) + 1) (vp_nar .byte ((a1 >>> (24 &&& 31)).toInt8.toInt32))) (((((tp + 1) + 1) + 1) + 1) + 1) (vp_nar .byte ((a1 >>> (16 &&& 31)).toInt8.toInt32))) ((((((tp + 1) + 1) + 1) + 1) + 1) + 1) (vp_nar .byte ((a1 >>> (8 &&& 31)).toInt8.toInt32))) (((((((tp + 1) + 1) + 1) + 1) + 1) + 1) + 1) (vp_nar .byte ((a1 >>> (0 &&& 31)).toInt8.toInt32)))) ++ W0) s _ _ := hW
    refine lv_aload_n hx hb dX4_feed_101 rfl (lv_at hl 2 rfl) ?_
    refine lv_dup hx hb dX4_feed_102 rfl ?_
    refine gM0_taped hF hW q1127 (v := nI (((((((tp + 1) + 1) + 1) + 1) + 1) + 1) + 1)) (rfl) dX4_feed_103 ?_
    refine lv_iconst (v := 1) hx hb dX4_feed_106 (by decide) ?_
    refine lv_iadd hx hb dX4_feed_107 ?_
    refine lv_eqi (show (nI (((((((tp + 1) + 1) + 1) + 1) + 1) + 1) + 1)) + 1 = nI ((((((((tp + 1) + 1) + 1) + 1) + 1) + 1) + 1) + 1) from nI_add (((((((tp + 1) + 1) + 1) + 1) + 1) + 1) + 1) 1) ?_
    refine pM0_taped hF hW q1127 dX4_feed_108 (fun H locs hW => ?_)
    have hW : pM G (MWl G ad (xa (xi (xi y 0 0) 11 (nI ((((((((tp + 1) + 1) + 1) + 1) + 1) + 1) + 1) + 1))) 13 (va_up (va_up (va_up (va_up (va_up (va_up (va_up (va_up (y.2.1 13) tp (vp_nar .byte ((a0 >>> (24 &&& 31)).toInt8.toInt32))) (tp + 1) (vp_nar .byte ((a0 >>> (16 &&& 31)).toInt8.toInt32))) ((tp + 1) + 1) (vp_nar .byte ((a0 >>> (8 &&& 31)).toInt8.toInt32))) (((tp + 1) + 1) + 1) (vp_nar .byte ((a0 >>> (0 &&& 31)).toInt8.toInt32))) ((((tp + 1) + 1) + 1) + 1) (vp_nar .byte ((a1 >>> (24 &&& 31)).toInt8.toInt32))) (((((tp + 1) + 1) + 1) + 1) + 1) (vp_nar .byte ((a1 >>> (16 &&& 31)).toInt8.toInt32))) ((((((tp + 1) + 1) + 1) + 1) + 1) + 1) (vp_nar .byte ((a1 >>> (8 &&& 31)).toInt8.toInt32))) (((((((tp + 1) + 1) + 1) + 1) + 1) + 1) + 1) (vp_nar .byte ((a1 >>> (0 &&& 31)).toInt8.toInt32)))) ++ W0) s _ _ := hW
    refine lv_iinc (v := 8) (lv' := [(6, .int 8), (7, .int a1), (0, .ref (ad 0)), (1, .int a0), (2, .int a1), (3, .int a2), (4, .int a3), (5, .int a4)]) hx hb dX4_feed_111 hl (k := 1) rfl (by decide) (by decide) rfl (fun ls hl => ?_)
    refine lv_goto (tgt := 23) hx hb dX4_feed_114 (by decide) ?_
    refine lv_iload hx hb dX4_feed_23 (lv_at hl 0 rfl) ?_
    refine lv_bipush (v := 20) hx hb dX4_feed_25 (by decide) ?_
    refine lv_icmp_ge (tgt := 117) hx hb dX4_feed_27 (by decide) (fun c_27 => absurd c_27 (by decide)) (fun c_27 => ?_)
    refine lv_iload hx hb dX4_feed_30 (lv_at hl 0 rfl) ?_
    refine lv_iconst (v := 4) hx hb dX4_feed_32 (by decide) ?_
    refine lv_icmp_ge (tgt := 40) hx hb dX4_feed_33 (by decide) (fun c_33 => ?_) (fun c_33 => absurd c_33 (by decide))
    refine lv_iload hx hb dX4_feed_40 (lv_at hl 0 rfl) ?_
    refine lv_bipush (v := 8) hx hb dX4_feed_42 (by decide) ?_
    refine lv_icmp_ge (tgt := 51) hx hb dX4_feed_44 (by decide) (fun c_44 => ?_) (fun c_44 => absurd c_44 (by decide))
    refine lv_iload hx hb dX4_feed_51 (lv_at hl 0 rfl) ?_
    refine lv_bipush (v := 12) hx hb dX4_feed_53 (by decide) ?_
    refine lv_icmp_ge (tgt := 62) hx hb dX4_feed_55 (by decide) (fun c_55 => absurd c_55 (by decide)) (fun c_55 => ?_)
    refine lv_iload_n hx hb dX4_feed_58 rfl (lv_at hl 5 rfl) ?_
    refine lv_goto (tgt := 76) hx hb dX4_feed_59 (by decide) ?_
    refine lv_istore (lv' := [(7, .int a2), (6, .int 8), (0, .ref (ad 0)), (1, .int a0), (2, .int a1), (3, .int a2), (4, .int a3), (5, .int a4)]) hx hb dX4_feed_76 hl (by decide) rfl (fun ls hl => ?_)
    refine lv_aload_n hx hb dX4_feed_78 rfl (lv_at hl 2 rfl) ?_
    refine gM0_tape hF hW q1126 dX4_feed_79 ?_
    refine lv_aload_n hx hb dX4_feed_82 rfl (lv_at hl 2 rfl) ?_
    refine gM0_taped hF hW q1127 (v := nI ((((((((tp + 1) + 1) + 1) + 1) + 1) + 1) + 1) + 1)) (rfl) dX4_feed_83 ?_
    refine lv_iload hx hb dX4_feed_86 (lv_at hl 0 rfl) ?_
    refine lv_bipush (v := 24) hx hb dX4_feed_88 (by decide) ?_
    refine lv_bipush (v := 8) hx hb dX4_feed_90 (by decide) ?_
    refine lv_iload hx hb dX4_feed_92 (lv_at hl 1 rfl) ?_
    refine lv_iconst (v := 4) hx hb dX4_feed_94 (by decide) ?_
    refine lv_irem hx hb dX4_feed_95 (by decide) ?_
    refine lv_eqi (show 8 - 8 / 4 * 4 = 0 from by decide) ?_
    refine lv_imul hx hb dX4_feed_96 ?_
    refine lv_eqi (show 8 * 0 = 0 from by decide) ?_
    refine lv_isub hx hb dX4_feed_97 ?_
    refine lv_eqi (show 24 - 0 = 24 from by decide) ?_
    refine lv_ishr hx hb dX4_feed_98 ?_
    refine lv_i2b hx hb dX4_feed_99 rfl ?_
    refine sM21 hF hW (j := ((((((((tp + 1) + 1) + 1) + 1) + 1) + 1) + 1) + 1)) (rfl) (by omega) dX4_feed_100 (fun H locs hW => ?_)
    have hW : pM G (MWl G ad (xa (xi (xi y 0 0) 11 (nI ((((((((tp + 1) + 1) + 1) + 1) + 1) + 1) + 1) + 1))) 13 (va_up (va_up (va_up (va_up (va_up (va_up (va_up (va_up (va_up (y.2.1 13) tp (vp_nar .byte ((a0 >>> (24 &&& 31)).toInt8.toInt32))) (tp + 1) (vp_nar .byte ((a0 >>> (16 &&& 31)).toInt8.toInt32))) ((tp + 1) + 1) (vp_nar .byte ((a0 >>> (8 &&& 31)).toInt8.toInt32))) (((tp + 1) + 1) + 1) (vp_nar .byte ((a0 >>> (0 &&& 31)).toInt8.toInt32))) ((((tp + 1) + 1) + 1) + 1) (vp_nar .byte ((a1 >>> (24 &&& 31)).toInt8.toInt32))) (((((tp + 1) + 1) + 1) + 1) + 1) (vp_nar .byte ((a1 >>> (16 &&& 31)).toInt8.toInt32))) ((((((tp + 1) + 1) + 1) + 1) + 1) + 1) (vp_nar .byte ((a1 >>> (8 &&& 31)).toInt8.toInt32))) (((((((tp + 1) + 1) + 1) + 1) + 1) + 1) + 1) (vp_nar .byte ((a1 >>> (0 &&& 31)).toInt8.toInt32))) ((((((((tp + 1) + 1) + 1) + 1) + 1) + 1) + 1) + 1) (vp_nar .byte ((a2 >>> (24 &&& 31)).toInt8.toInt32)))) ++ W0) s _ _ := hW
    refine lv_aload_n hx hb dX4_feed_101 rfl (lv_at hl 2 rfl) ?_
    refine lv_dup hx hb dX4_feed_102 rfl ?_
    refine gM0_taped hF hW q1127 (v := nI ((((((((tp + 1) + 1) + 1) + 1) + 1) + 1) + 1) + 1)) (rfl) dX4_feed_103 ?_
    refine lv_iconst (v := 1) hx hb dX4_feed_106 (by decide) ?_
    refine lv_iadd hx hb dX4_feed_107 ?_
    refine lv_eqi (show (nI ((((((((tp + 1) + 1) + 1) + 1) + 1) + 1) + 1) + 1)) + 1 = nI (((((((((tp + 1) + 1) + 1) + 1) + 1) + 1) + 1) + 1) + 1) from nI_add ((((((((tp + 1) + 1) + 1) + 1) + 1) + 1) + 1) + 1) 1) ?_
    refine pM0_taped hF hW q1127 dX4_feed_108 (fun H locs hW => ?_)
    have hW : pM G (MWl G ad (xa (xi (xi y 0 0) 11 (nI (((((((((tp + 1) + 1) + 1) + 1) + 1) + 1) + 1) + 1) + 1))) 13 (va_up (va_up (va_up (va_up (va_up (va_up (va_up (va_up (va_up (y.2.1 13) tp (vp_nar .byte ((a0 >>> (24 &&& 31)).toInt8.toInt32))) (tp + 1) (vp_nar .byte ((a0 >>> (16 &&& 31)).toInt8.toInt32))) ((tp + 1) + 1) (vp_nar .byte ((a0 >>> (8 &&& 31)).toInt8.toInt32))) (((tp + 1) + 1) + 1) (vp_nar .byte ((a0 >>> (0 &&& 31)).toInt8.toInt32))) ((((tp + 1) + 1) + 1) + 1) (vp_nar .byte ((a1 >>> (24 &&& 31)).toInt8.toInt32))) (((((tp + 1) + 1) + 1) + 1) + 1) (vp_nar .byte ((a1 >>> (16 &&& 31)).toInt8.toInt32))) ((((((tp + 1) + 1) + 1) + 1) + 1) + 1) (vp_nar .byte ((a1 >>> (8 &&& 31)).toInt8.toInt32))) (((((((tp + 1) + 1) + 1) + 1) + 1) + 1) + 1) (vp_nar .byte ((a1 >>> (0 &&& 31)).toInt8.toInt32))) ((((((((tp + 1) + 1) + 1) + 1) + 1) + 1) + 1) + 1) (vp_nar .byte ((a2 >>> (24 &&& 31)).toInt8.toInt32)))) ++ W0) s _ _ := hW
    refine lv_iinc (v := 9) (lv' := [(6, .int 9), (7, .int a2), (0, .ref (ad 0)), (1, .int a0), (2, .int a1), (3, .int a2), (4, .int a3), (5, .int a4)]) hx hb dX4_feed_111 hl (k := 1) rfl (by decide) (by decide) rfl (fun ls hl => ?_)
    refine lv_goto (tgt := 23) hx hb dX4_feed_114 (by decide) ?_
    refine lv_iload hx hb dX4_feed_23 (lv_at hl 0 rfl) ?_
    refine lv_bipush (v := 20) hx hb dX4_feed_25 (by decide) ?_
    refine lv_icmp_ge (tgt := 117) hx hb dX4_feed_27 (by decide) (fun c_27 => absurd c_27 (by decide)) (fun c_27 => ?_)
    refine lv_iload hx hb dX4_feed_30 (lv_at hl 0 rfl) ?_
    refine lv_iconst (v := 4) hx hb dX4_feed_32 (by decide) ?_
    refine lv_icmp_ge (tgt := 40) hx hb dX4_feed_33 (by decide) (fun c_33 => ?_) (fun c_33 => absurd c_33 (by decide))
    refine lv_iload hx hb dX4_feed_40 (lv_at hl 0 rfl) ?_
    refine lv_bipush (v := 8) hx hb dX4_feed_42 (by decide) ?_
    refine lv_icmp_ge (tgt := 51) hx hb dX4_feed_44 (by decide) (fun c_44 => ?_) (fun c_44 => absurd c_44 (by decide))
    refine lv_iload hx hb dX4_feed_51 (lv_at hl 0 rfl) ?_
    refine lv_bipush (v := 12) hx hb dX4_feed_53 (by decide) ?_
    refine lv_icmp_ge (tgt := 62) hx hb dX4_feed_55 (by decide) (fun c_55 => absurd c_55 (by decide)) (fun c_55 => ?_)
    refine lv_iload_n hx hb dX4_feed_58 rfl (lv_at hl 5 rfl) ?_
    refine lv_goto (tgt := 76) hx hb dX4_feed_59 (by decide) ?_
    refine lv_istore (lv' := [(7, .int a2), (6, .int 9), (0, .ref (ad 0)), (1, .int a0), (2, .int a1), (3, .int a2), (4, .int a3), (5, .int a4)]) hx hb dX4_feed_76 hl (by decide) rfl (fun ls hl => ?_)
    refine lv_aload_n hx hb dX4_feed_78 rfl (lv_at hl 2 rfl) ?_
    refine gM0_tape hF hW q1126 dX4_feed_79 ?_
    refine lv_aload_n hx hb dX4_feed_82 rfl (lv_at hl 2 rfl) ?_
    refine gM0_taped hF hW q1127 (v := nI (((((((((tp + 1) + 1) + 1) + 1) + 1) + 1) + 1) + 1) + 1)) (rfl) dX4_feed_83 ?_
    refine lv_iload hx hb dX4_feed_86 (lv_at hl 0 rfl) ?_
    refine lv_bipush (v := 24) hx hb dX4_feed_88 (by decide) ?_
    refine lv_bipush (v := 8) hx hb dX4_feed_90 (by decide) ?_
    refine lv_iload hx hb dX4_feed_92 (lv_at hl 1 rfl) ?_
    refine lv_iconst (v := 4) hx hb dX4_feed_94 (by decide) ?_
    refine lv_irem hx hb dX4_feed_95 (by decide) ?_
    refine lv_eqi (show 9 - 9 / 4 * 4 = 1 from by decide) ?_
    refine lv_imul hx hb dX4_feed_96 ?_
    refine lv_eqi (show 8 * 1 = 8 from by decide) ?_
    refine lv_isub hx hb dX4_feed_97 ?_
    refine lv_eqi (show 24 - 8 = 16 from by decide) ?_
    refine lv_ishr hx hb dX4_feed_98 ?_
    refine lv_i2b hx hb dX4_feed_99 rfl ?_
    refine sM21 hF hW (j := (((((((((tp + 1) + 1) + 1) + 1) + 1) + 1) + 1) + 1) + 1)) (rfl) (by omega) dX4_feed_100 (fun H locs hW => ?_)
    have hW : pM G (MWl G ad (xa (xi (xi y 0 0) 11 (nI (((((((((tp + 1) + 1) + 1) + 1) + 1) + 1) + 1) + 1) + 1))) 13 (va_up (va_up (va_up (va_up (va_up (va_up (va_up (va_up (va_up (va_up (y.2.1 13) tp (vp_nar .byte ((a0 >>> (24 &&& 31)).toInt8.toInt32))) (tp + 1) (vp_nar .byte ((a0 >>> (16 &&& 31)).toInt8.toInt32))) ((tp + 1) + 1) (vp_nar .byte ((a0 >>> (8 &&& 31)).toInt8.toInt32))) (((tp + 1) + 1) + 1) (vp_nar .byte ((a0 >>> (0 &&& 31)).toInt8.toInt32))) ((((tp + 1) + 1) + 1) + 1) (vp_nar .byte ((a1 >>> (24 &&& 31)).toInt8.toInt32))) (((((tp + 1) + 1) + 1) + 1) + 1) (vp_nar .byte ((a1 >>> (16 &&& 31)).toInt8.toInt32))) ((((((tp + 1) + 1) + 1) + 1) + 1) + 1) (vp_nar .byte ((a1 >>> (8 &&& 31)).toInt8.toInt32))) (((((((tp + 1) + 1) + 1) + 1) + 1) + 1) + 1) (vp_nar .byte ((a1 >>> (0 &&& 31)).toInt8.toInt32))) ((((((((tp + 1) + 1) + 1) + 1) + 1) + 1) + 1) + 1) (vp_nar .byte ((a2 >>> (24 &&& 31)).toInt8.toInt32))) (((((((((tp + 1) + 1) + 1) + 1) + 1) + 1) + 1) + 1) + 1) (vp_nar .byte ((a2 >>> (16 &&& 31)).toInt8.toInt32)))) ++ W0) s _ _ := hW
    refine lv_aload_n hx hb dX4_feed_101 rfl (lv_at hl 2 rfl) ?_
    refine lv_dup hx hb dX4_feed_102 rfl ?_
    refine gM0_taped hF hW q1127 (v := nI (((((((((tp + 1) + 1) + 1) + 1) + 1) + 1) + 1) + 1) + 1)) (rfl) dX4_feed_103 ?_
    refine lv_iconst (v := 1) hx hb dX4_feed_106 (by decide) ?_
    refine lv_iadd hx hb dX4_feed_107 ?_
    refine lv_eqi (show (nI (((((((((tp + 1) + 1) + 1) + 1) + 1) + 1) + 1) + 1) + 1)) + 1 = nI ((((((((((tp + 1) + 1) + 1) + 1) + 1) + 1) + 1) + 1) + 1) + 1) from nI_add (((((((((tp + 1) + 1) + 1) + 1) + 1) + 1) + 1) + 1) + 1) 1) ?_
    refine pM0_taped hF hW q1127 dX4_feed_108 (fun H locs hW => ?_)
    have hW : pM G (MWl G ad (xa (xi (xi y 0 0) 11 (nI ((((((((((tp + 1) + 1) + 1) + 1) + 1) + 1) + 1) + 1) + 1) + 1))) 13 (va_up (va_up (va_up (va_up (va_up (va_up (va_up (va_up (va_up (va_up (y.2.1 13) tp (vp_nar .byte ((a0 >>> (24 &&& 31)).toInt8.toInt32))) (tp + 1) (vp_nar .byte ((a0 >>> (16 &&& 31)).toInt8.toInt32))) ((tp + 1) + 1) (vp_nar .byte ((a0 >>> (8 &&& 31)).toInt8.toInt32))) (((tp + 1) + 1) + 1) (vp_nar .byte ((a0 >>> (0 &&& 31)).toInt8.toInt32))) ((((tp + 1) + 1) + 1) + 1) (vp_nar .byte ((a1 >>> (24 &&& 31)).toInt8.toInt32))) (((((tp + 1) + 1) + 1) + 1) + 1) (vp_nar .byte ((a1 >>> (16 &&& 31)).toInt8.toInt32))) ((((((tp + 1) + 1) + 1) + 1) + 1) + 1) (vp_nar .byte ((a1 >>> (8 &&& 31)).toInt8.toInt32))) (((((((tp + 1) + 1) + 1) + 1) + 1) + 1) + 1) (vp_nar .byte ((a1 >>> (0 &&& 31)).toInt8.toInt32))) ((((((((tp + 1) + 1) + 1) + 1) + 1) + 1) + 1) + 1) (vp_nar .byte ((a2 >>> (24 &&& 31)).toInt8.toInt32))) (((((((((tp + 1) + 1) + 1) + 1) + 1) + 1) + 1) + 1) + 1) (vp_nar .byte ((a2 >>> (16 &&& 31)).toInt8.toInt32)))) ++ W0) s _ _ := hW
    refine lv_iinc (v := 10) (lv' := [(6, .int 10), (7, .int a2), (0, .ref (ad 0)), (1, .int a0), (2, .int a1), (3, .int a2), (4, .int a3), (5, .int a4)]) hx hb dX4_feed_111 hl (k := 1) rfl (by decide) (by decide) rfl (fun ls hl => ?_)
    refine lv_goto (tgt := 23) hx hb dX4_feed_114 (by decide) ?_
    refine lv_iload hx hb dX4_feed_23 (lv_at hl 0 rfl) ?_
    refine lv_bipush (v := 20) hx hb dX4_feed_25 (by decide) ?_
    refine lv_icmp_ge (tgt := 117) hx hb dX4_feed_27 (by decide) (fun c_27 => absurd c_27 (by decide)) (fun c_27 => ?_)
    refine lv_iload hx hb dX4_feed_30 (lv_at hl 0 rfl) ?_
    refine lv_iconst (v := 4) hx hb dX4_feed_32 (by decide) ?_
    refine lv_icmp_ge (tgt := 40) hx hb dX4_feed_33 (by decide) (fun c_33 => ?_) (fun c_33 => absurd c_33 (by decide))
    refine lv_iload hx hb dX4_feed_40 (lv_at hl 0 rfl) ?_
    refine lv_bipush (v := 8) hx hb dX4_feed_42 (by decide) ?_
    refine lv_icmp_ge (tgt := 51) hx hb dX4_feed_44 (by decide) (fun c_44 => ?_) (fun c_44 => absurd c_44 (by decide))
    refine lv_iload hx hb dX4_feed_51 (lv_at hl 0 rfl) ?_
    refine lv_bipush (v := 12) hx hb dX4_feed_53 (by decide) ?_
    refine lv_icmp_ge (tgt := 62) hx hb dX4_feed_55 (by decide) (fun c_55 => absurd c_55 (by decide)) (fun c_55 => ?_)
    refine lv_iload_n hx hb dX4_feed_58 rfl (lv_at hl 5 rfl) ?_
    refine lv_goto (tgt := 76) hx hb dX4_feed_59 (by decide) ?_
    refine lv_istore (lv' := [(7, .int a2), (6, .int 10), (0, .ref (ad 0)), (1, .int a0), (2, .int a1), (3, .int a2), (4, .int a3), (5, .int a4)]) hx hb dX4_feed_76 hl (by decide) rfl (fun ls hl => ?_)
    refine lv_aload_n hx hb dX4_feed_78 rfl (lv_at hl 2 rfl) ?_
    refine gM0_tape hF hW q1126 dX4_feed_79 ?_
    refine lv_aload_n hx hb dX4_feed_82 rfl (lv_at hl 2 rfl) ?_
    refine gM0_taped hF hW q1127 (v := nI ((((((((((tp + 1) + 1) + 1) + 1) + 1) + 1) + 1) + 1) + 1) + 1)) (rfl) dX4_feed_83 ?_
    refine lv_iload hx hb dX4_feed_86 (lv_at hl 0 rfl) ?_
    refine lv_bipush (v := 24) hx hb dX4_feed_88 (by decide) ?_
    refine lv_bipush (v := 8) hx hb dX4_feed_90 (by decide) ?_
    refine lv_iload hx hb dX4_feed_92 (lv_at hl 1 rfl) ?_
    refine lv_iconst (v := 4) hx hb dX4_feed_94 (by decide) ?_
    refine lv_irem hx hb dX4_feed_95 (by decide) ?_
    refine lv_eqi (show 10 - 10 / 4 * 4 = 2 from by decide) ?_
    refine lv_imul hx hb dX4_feed_96 ?_
    refine lv_eqi (show 8 * 2 = 16 from by decide) ?_
    refine lv_isub hx hb dX4_feed_97 ?_
    refine lv_eqi (show 24 - 16 = 8 from by decide) ?_
    refine lv_ishr hx hb dX4_feed_98 ?_
    refine lv_i2b hx hb dX4_feed_99 rfl ?_
    refine sM21 hF hW (j := ((((((((((tp + 1) + 1) + 1) + 1) + 1) + 1) + 1) + 1) + 1) + 1)) (rfl) (by omega) dX4_feed_100 (fun H locs hW => ?_)
    have hW : pM G (MWl G ad (xa (xi (xi y 0 0) 11 (nI ((((((((((tp + 1) + 1) + 1) + 1) + 1) + 1) + 1) + 1) + 1) + 1))) 13 (va_up (va_up (va_up (va_up (va_up (va_up (va_up (va_up (va_up (va_up (va_up (y.2.1 13) tp (vp_nar .byte ((a0 >>> (24 &&& 31)).toInt8.toInt32))) (tp + 1) (vp_nar .byte ((a0 >>> (16 &&& 31)).toInt8.toInt32))) ((tp + 1) + 1) (vp_nar .byte ((a0 >>> (8 &&& 31)).toInt8.toInt32))) (((tp + 1) + 1) + 1) (vp_nar .byte ((a0 >>> (0 &&& 31)).toInt8.toInt32))) ((((tp + 1) + 1) + 1) + 1) (vp_nar .byte ((a1 >>> (24 &&& 31)).toInt8.toInt32))) (((((tp + 1) + 1) + 1) + 1) + 1) (vp_nar .byte ((a1 >>> (16 &&& 31)).toInt8.toInt32))) ((((((tp + 1) + 1) + 1) + 1) + 1) + 1) (vp_nar .byte ((a1 >>> (8 &&& 31)).toInt8.toInt32))) (((((((tp + 1) + 1) + 1) + 1) + 1) + 1) + 1) (vp_nar .byte ((a1 >>> (0 &&& 31)).toInt8.toInt32))) ((((((((tp + 1) + 1) + 1) + 1) + 1) + 1) + 1) + 1) (vp_nar .byte ((a2 >>> (24 &&& 31)).toInt8.toInt32))) (((((((((tp + 1) + 1) + 1) + 1) + 1) + 1) + 1) + 1) + 1) (vp_nar .byte ((a2 >>> (16 &&& 31)).toInt8.toInt32))) ((((((((((tp + 1) + 1) + 1) + 1) + 1) + 1) + 1) + 1) + 1) + 1) (vp_nar .byte ((a2 >>> (8 &&& 31)).toInt8.toInt32)))) ++ W0) s _ _ := hW
    refine lv_aload_n hx hb dX4_feed_101 rfl (lv_at hl 2 rfl) ?_
    refine lv_dup hx hb dX4_feed_102 rfl ?_
    refine gM0_taped hF hW q1127 (v := nI ((((((((((tp + 1) + 1) + 1) + 1) + 1) + 1) + 1) + 1) + 1) + 1)) (rfl) dX4_feed_103 ?_
    refine lv_iconst (v := 1) hx hb dX4_feed_106 (by decide) ?_
    refine lv_iadd hx hb dX4_feed_107 ?_
    refine lv_eqi (show (nI ((((((((((tp + 1) + 1) + 1) + 1) + 1) + 1) + 1) + 1) + 1) + 1)) + 1 = nI (((((((((((tp + 1) + 1) + 1) + 1) + 1) + 1) + 1) + 1) + 1) + 1) + 1) from nI_add ((((((((((tp + 1) + 1) + 1) + 1) + 1) + 1) + 1) + 1) + 1) + 1) 1) ?_
    refine pM0_taped hF hW q1127 dX4_feed_108 (fun H locs hW => ?_)
    have hW : pM G (MWl G ad (xa (xi (xi y 0 0) 11 (nI (((((((((((tp + 1) + 1) + 1) + 1) + 1) + 1) + 1) + 1) + 1) + 1) + 1))) 13 (va_up (va_up (va_up (va_up (va_up (va_up (va_up (va_up (va_up (va_up (va_up (y.2.1 13) tp (vp_nar .byte ((a0 >>> (24 &&& 31)).toInt8.toInt32))) (tp + 1) (vp_nar .byte ((a0 >>> (16 &&& 31)).toInt8.toInt32))) ((tp + 1) + 1) (vp_nar .byte ((a0 >>> (8 &&& 31)).toInt8.toInt32))) (((tp + 1) + 1) + 1) (vp_nar .byte ((a0 >>> (0 &&& 31)).toInt8.toInt32))) ((((tp + 1) + 1) + 1) + 1) (vp_nar .byte ((a1 >>> (24 &&& 31)).toInt8.toInt32))) (((((tp + 1) + 1) + 1) + 1) + 1) (vp_nar .byte ((a1 >>> (16 &&& 31)).toInt8.toInt32))) ((((((tp + 1) + 1) + 1) + 1) + 1) + 1) (vp_nar .byte ((a1 >>> (8 &&& 31)).toInt8.toInt32))) (((((((tp + 1) + 1) + 1) + 1) + 1) + 1) + 1) (vp_nar .byte ((a1 >>> (0 &&& 31)).toInt8.toInt32))) ((((((((tp + 1) + 1) + 1) + 1) + 1) + 1) + 1) + 1) (vp_nar .byte ((a2 >>> (24 &&& 31)).toInt8.toInt32))) (((((((((tp + 1) + 1) + 1) + 1) + 1) + 1) + 1) + 1) + 1) (vp_nar .byte ((a2 >>> (16 &&& 31)).toInt8.toInt32))) ((((((((((tp + 1) + 1) + 1) + 1) + 1) + 1) + 1) + 1) + 1) + 1) (vp_nar .byte ((a2 >>> (8 &&& 31)).toInt8.toInt32)))) ++ W0) s _ _ := hW
    refine lv_iinc (v := 11) (lv' := [(6, .int 11), (7, .int a2), (0, .ref (ad 0)), (1, .int a0), (2, .int a1), (3, .int a2), (4, .int a3), (5, .int a4)]) hx hb dX4_feed_111 hl (k := 1) rfl (by decide) (by decide) rfl (fun ls hl => ?_)
    refine lv_goto (tgt := 23) hx hb dX4_feed_114 (by decide) ?_
    refine lv_iload hx hb dX4_feed_23 (lv_at hl 0 rfl) ?_
    refine lv_bipush (v := 20) hx hb dX4_feed_25 (by decide) ?_
    refine lv_icmp_ge (tgt := 117) hx hb dX4_feed_27 (by decide) (fun c_27 => absurd c_27 (by decide)) (fun c_27 => ?_)
    refine lv_iload hx hb dX4_feed_30 (lv_at hl 0 rfl) ?_
    refine lv_iconst (v := 4) hx hb dX4_feed_32 (by decide) ?_
    refine lv_icmp_ge (tgt := 40) hx hb dX4_feed_33 (by decide) (fun c_33 => ?_) (fun c_33 => absurd c_33 (by decide))
    refine lv_iload hx hb dX4_feed_40 (lv_at hl 0 rfl) ?_
    refine lv_bipush (v := 8) hx hb dX4_feed_42 (by decide) ?_
    refine lv_icmp_ge (tgt := 51) hx hb dX4_feed_44 (by decide) (fun c_44 => ?_) (fun c_44 => absurd c_44 (by decide))
    refine lv_iload hx hb dX4_feed_51 (lv_at hl 0 rfl) ?_
    refine lv_bipush (v := 12) hx hb dX4_feed_53 (by decide) ?_
    refine lv_icmp_ge (tgt := 62) hx hb dX4_feed_55 (by decide) (fun c_55 => absurd c_55 (by decide)) (fun c_55 => ?_)
    refine lv_iload_n hx hb dX4_feed_58 rfl (lv_at hl 5 rfl) ?_
    refine lv_goto (tgt := 76) hx hb dX4_feed_59 (by decide) ?_
    refine lv_istore (lv' := [(7, .int a2), (6, .int 11), (0, .ref (ad 0)), (1, .int a0), (2, .int a1), (3, .int a2), (4, .int a3), (5, .int a4)]) hx hb dX4_feed_76 hl (by decide) rfl (fun ls hl => ?_)
    refine lv_aload_n hx hb dX4_feed_78 rfl (lv_at hl 2 rfl) ?_
    refine gM0_tape hF hW q1126 dX4_feed_79 ?_
    refine lv_aload_n hx hb dX4_feed_82 rfl (lv_at hl 2 rfl) ?_
    refine gM0_taped hF hW q1127 (v := nI (((((((((((tp + 1) + 1) + 1) + 1) + 1) + 1) + 1) + 1) + 1) + 1) + 1)) (rfl) dX4_feed_83 ?_
    refine lv_iload hx hb dX4_feed_86 (lv_at hl 0 rfl) ?_
    refine lv_bipush (v := 24) hx hb dX4_feed_88 (by decide) ?_
    refine lv_bipush (v := 8) hx hb dX4_feed_90 (by decide) ?_
    refine lv_iload hx hb dX4_feed_92 (lv_at hl 1 rfl) ?_
    refine lv_iconst (v := 4) hx hb dX4_feed_94 (by decide) ?_
    refine lv_irem hx hb dX4_feed_95 (by decide) ?_
    refine lv_eqi (show 11 - 11 / 4 * 4 = 3 from by decide) ?_
    refine lv_imul hx hb dX4_feed_96 ?_
    refine lv_eqi (show 8 * 3 = 24 from by decide) ?_
    refine lv_isub hx hb dX4_feed_97 ?_
    refine lv_eqi (show 24 - 24 = 0 from by decide) ?_
    refine lv_ishr hx hb dX4_feed_98 ?_
    refine lv_i2b hx hb dX4_feed_99 rfl ?_
    refine sM21 hF hW (j := (((((((((((tp + 1) + 1) + 1) + 1) + 1) + 1) + 1) + 1) + 1) + 1) + 1)) (rfl) (by omega) dX4_feed_100 (fun H locs hW => ?_)
    have hW : pM G (MWl G ad (xa (xi (xi y 0 0) 11 (nI (((((((((((tp + 1) + 1) + 1) + 1) + 1) + 1) + 1) + 1) + 1) + 1) + 1))) 13 (va_up (va_up (va_up (va_up (va_up (va_up (va_up (va_up (va_up (va_up (va_up (va_up (y.2.1 13) tp (vp_nar .byte ((a0 >>> (24 &&& 31)).toInt8.toInt32))) (tp + 1) (vp_nar .byte ((a0 >>> (16 &&& 31)).toInt8.toInt32))) ((tp + 1) + 1) (vp_nar .byte ((a0 >>> (8 &&& 31)).toInt8.toInt32))) (((tp + 1) + 1) + 1) (vp_nar .byte ((a0 >>> (0 &&& 31)).toInt8.toInt32))) ((((tp + 1) + 1) + 1) + 1) (vp_nar .byte ((a1 >>> (24 &&& 31)).toInt8.toInt32))) (((((tp + 1) + 1) + 1) + 1) + 1) (vp_nar .byte ((a1 >>> (16 &&& 31)).toInt8.toInt32))) ((((((tp + 1) + 1) + 1) + 1) + 1) + 1) (vp_nar .byte ((a1 >>> (8 &&& 31)).toInt8.toInt32))) (((((((tp + 1) + 1) + 1) + 1) + 1) + 1) + 1) (vp_nar .byte ((a1 >>> (0 &&& 31)).toInt8.toInt32))) ((((((((tp + 1) + 1) + 1) + 1) + 1) + 1) + 1) + 1) (vp_nar .byte ((a2 >>> (24 &&& 31)).toInt8.toInt32))) (((((((((tp + 1) + 1) + 1) + 1) + 1) + 1) + 1) + 1) + 1) (vp_nar .byte ((a2 >>> (16 &&& 31)).toInt8.toInt32))) ((((((((((tp + 1) + 1) + 1) + 1) + 1) + 1) + 1) + 1) + 1) + 1) (vp_nar .byte ((a2 >>> (8 &&& 31)).toInt8.toInt32))) (((((((((((tp + 1) + 1) + 1) + 1) + 1) + 1) + 1) + 1) + 1) + 1) + 1) (vp_nar .byte ((a2 >>> (0 &&& 31)).toInt8.toInt32)))) ++ W0) s _ _ := hW
    refine lv_aload_n hx hb dX4_feed_101 rfl (lv_at hl 2 rfl) ?_
    refine lv_dup hx hb dX4_feed_102 rfl ?_
    refine gM0_taped hF hW q1127 (v := nI (((((((((((tp + 1) + 1) + 1) + 1) + 1) + 1) + 1) + 1) + 1) + 1) + 1)) (rfl) dX4_feed_103 ?_
    refine lv_iconst (v := 1) hx hb dX4_feed_106 (by decide) ?_
    refine lv_iadd hx hb dX4_feed_107 ?_
    refine lv_eqi (show (nI (((((((((((tp + 1) + 1) + 1) + 1) + 1) + 1) + 1) + 1) + 1) + 1) + 1)) + 1 = nI ((((((((((((tp + 1) + 1) + 1) + 1) + 1) + 1) + 1) + 1) + 1) + 1) + 1) + 1) from nI_add (((((((((((tp + 1) + 1) + 1) + 1) + 1) + 1) + 1) + 1) + 1) + 1) + 1) 1) ?_
    refine pM0_taped hF hW q1127 dX4_feed_108 (fun H locs hW => ?_)
    have hW : pM G (MWl G ad (xa (xi (xi y 0 0) 11 (nI ((((((((((((tp + 1) + 1) + 1) + 1) + 1) + 1) + 1) + 1) + 1) + 1) + 1) + 1))) 13 (va_up (va_up (va_up (va_up (va_up (va_up (va_up (va_up (va_up (va_up (va_up (va_up (y.2.1 13) tp (vp_nar .byte ((a0 >>> (24 &&& 31)).toInt8.toInt32))) (tp + 1) (vp_nar .byte ((a0 >>> (16 &&& 31)).toInt8.toInt32))) ((tp + 1) + 1) (vp_nar .byte ((a0 >>> (8 &&& 31)).toInt8.toInt32))) (((tp + 1) + 1) + 1) (vp_nar .byte ((a0 >>> (0 &&& 31)).toInt8.toInt32))) ((((tp + 1) + 1) + 1) + 1) (vp_nar .byte ((a1 >>> (24 &&& 31)).toInt8.toInt32))) (((((tp + 1) + 1) + 1) + 1) + 1) (vp_nar .byte ((a1 >>> (16 &&& 31)).toInt8.toInt32))) ((((((tp + 1) + 1) + 1) + 1) + 1) + 1) (vp_nar .byte ((a1 >>> (8 &&& 31)).toInt8.toInt32))) (((((((tp + 1) + 1) + 1) + 1) + 1) + 1) + 1) (vp_nar .byte ((a1 >>> (0 &&& 31)).toInt8.toInt32))) ((((((((tp + 1) + 1) + 1) + 1) + 1) + 1) + 1) + 1) (vp_nar .byte ((a2 >>> (24 &&& 31)).toInt8.toInt32))) (((((((((tp + 1) + 1) + 1) + 1) + 1) + 1) + 1) + 1) + 1) (vp_nar .byte ((a2 >>> (16 &&& 31)).toInt8.toInt32))) ((((((((((tp + 1) + 1) + 1) + 1) + 1) + 1) + 1) + 1) + 1) + 1) (vp_nar .byte ((a2 >>> (8 &&& 31)).toInt8.toInt32))) (((((((((((tp + 1) + 1) + 1) + 1) + 1) + 1) + 1) + 1) + 1) + 1) + 1) (vp_nar .byte ((a2 >>> (0 &&& 31)).toInt8.toInt32)))) ++ W0) s _ _ := hW
    refine lv_iinc (v := 12) (lv' := [(6, .int 12), (7, .int a2), (0, .ref (ad 0)), (1, .int a0), (2, .int a1), (3, .int a2), (4, .int a3), (5, .int a4)]) hx hb dX4_feed_111 hl (k := 1) rfl (by decide) (by decide) rfl (fun ls hl => ?_)
    refine lv_goto (tgt := 23) hx hb dX4_feed_114 (by decide) ?_
    refine lv_iload hx hb dX4_feed_23 (lv_at hl 0 rfl) ?_
    refine lv_bipush (v := 20) hx hb dX4_feed_25 (by decide) ?_
    refine lv_icmp_ge (tgt := 117) hx hb dX4_feed_27 (by decide) (fun c_27 => absurd c_27 (by decide)) (fun c_27 => ?_)
    refine lv_iload hx hb dX4_feed_30 (lv_at hl 0 rfl) ?_
    refine lv_iconst (v := 4) hx hb dX4_feed_32 (by decide) ?_
    refine lv_icmp_ge (tgt := 40) hx hb dX4_feed_33 (by decide) (fun c_33 => ?_) (fun c_33 => absurd c_33 (by decide))
    refine lv_iload hx hb dX4_feed_40 (lv_at hl 0 rfl) ?_
    refine lv_bipush (v := 8) hx hb dX4_feed_42 (by decide) ?_
    refine lv_icmp_ge (tgt := 51) hx hb dX4_feed_44 (by decide) (fun c_44 => ?_) (fun c_44 => absurd c_44 (by decide))
    refine lv_iload hx hb dX4_feed_51 (lv_at hl 0 rfl) ?_
    refine lv_bipush (v := 12) hx hb dX4_feed_53 (by decide) ?_
    refine lv_icmp_ge (tgt := 62) hx hb dX4_feed_55 (by decide) (fun c_55 => ?_) (fun c_55 => absurd c_55 (by decide))
    refine lv_iload hx hb dX4_feed_62 (lv_at hl 0 rfl) ?_
    refine lv_bipush (v := 16) hx hb dX4_feed_64 (by decide) ?_
    refine lv_icmp_ge (tgt := 74) hx hb dX4_feed_66 (by decide) (fun c_66 => absurd c_66 (by decide)) (fun c_66 => ?_)
    refine lv_iload hx hb dX4_feed_69 (lv_at hl 6 rfl) ?_
    refine lv_goto (tgt := 76) hx hb dX4_feed_71 (by decide) ?_
    refine lv_istore (lv' := [(7, .int a3), (6, .int 12), (0, .ref (ad 0)), (1, .int a0), (2, .int a1), (3, .int a2), (4, .int a3), (5, .int a4)]) hx hb dX4_feed_76 hl (by decide) rfl (fun ls hl => ?_)
    refine lv_aload_n hx hb dX4_feed_78 rfl (lv_at hl 2 rfl) ?_
    refine gM0_tape hF hW q1126 dX4_feed_79 ?_
    refine lv_aload_n hx hb dX4_feed_82 rfl (lv_at hl 2 rfl) ?_
    refine gM0_taped hF hW q1127 (v := nI ((((((((((((tp + 1) + 1) + 1) + 1) + 1) + 1) + 1) + 1) + 1) + 1) + 1) + 1)) (rfl) dX4_feed_83 ?_
    refine lv_iload hx hb dX4_feed_86 (lv_at hl 0 rfl) ?_
    refine lv_bipush (v := 24) hx hb dX4_feed_88 (by decide) ?_
    refine lv_bipush (v := 8) hx hb dX4_feed_90 (by decide) ?_
    refine lv_iload hx hb dX4_feed_92 (lv_at hl 1 rfl) ?_
    refine lv_iconst (v := 4) hx hb dX4_feed_94 (by decide) ?_
    refine lv_irem hx hb dX4_feed_95 (by decide) ?_
    refine lv_eqi (show 12 - 12 / 4 * 4 = 0 from by decide) ?_
    refine lv_imul hx hb dX4_feed_96 ?_
    refine lv_eqi (show 8 * 0 = 0 from by decide) ?_
    refine lv_isub hx hb dX4_feed_97 ?_
    refine lv_eqi (show 24 - 0 = 24 from by decide) ?_
    refine lv_ishr hx hb dX4_feed_98 ?_
    refine lv_i2b hx hb dX4_feed_99 rfl ?_
    refine sM21 hF hW (j := ((((((((((((tp + 1) + 1) + 1) + 1) + 1) + 1) + 1) + 1) + 1) + 1) + 1) + 1)) (rfl) (by omega) dX4_feed_100 (fun H locs hW => ?_)
    have hW : pM G (MWl G ad (xa (xi (xi y 0 0) 11 (nI ((((((((((((tp + 1) + 1) + 1) + 1) + 1) + 1) + 1) + 1) + 1) + 1) + 1) + 1))) 13 (va_up (va_up (va_up (va_up (va_up (va_up (va_up (va_up (va_up (va_up (va_up (va_up (va_up (y.2.1 13) tp (vp_nar .byte ((a0 >>> (24 &&& 31)).toInt8.toInt32))) (tp + 1) (vp_nar .byte ((a0 >>> (16 &&& 31)).toInt8.toInt32))) ((tp + 1) + 1) (vp_nar .byte ((a0 >>> (8 &&& 31)).toInt8.toInt32))) (((tp + 1) + 1) + 1) (vp_nar .byte ((a0 >>> (0 &&& 31)).toInt8.toInt32))) ((((tp + 1) + 1) + 1) + 1) (vp_nar .byte ((a1 >>> (24 &&& 31)).toInt8.toInt32))) (((((tp + 1) + 1) + 1) + 1) + 1) (vp_nar .byte ((a1 >>> (16 &&& 31)).toInt8.toInt32))) ((((((tp + 1) + 1) + 1) + 1) + 1) + 1) (vp_nar .byte ((a1 >>> (8 &&& 31)).toInt8.toInt32))) (((((((tp + 1) + 1) + 1) + 1) + 1) + 1) + 1) (vp_nar .byte ((a1 >>> (0 &&& 31)).toInt8.toInt32))) ((((((((tp + 1) + 1) + 1) + 1) + 1) + 1) + 1) + 1) (vp_nar .byte ((a2 >>> (24 &&& 31)).toInt8.toInt32))) (((((((((tp + 1) + 1) + 1) + 1) + 1) + 1) + 1) + 1) + 1) (vp_nar .byte ((a2 >>> (16 &&& 31)).toInt8.toInt32))) ((((((((((tp + 1) + 1) + 1) + 1) + 1) + 1) + 1) + 1) + 1) + 1) (vp_nar .byte ((a2 >>> (8 &&& 31)).toInt8.toInt32))) (((((((((((tp + 1) + 1) + 1) + 1) + 1) + 1) + 1) + 1) + 1) + 1) + 1) (vp_nar .byte ((a2 >>> (0 &&& 31)).toInt8.toInt32))) ((((((((((((tp + 1) + 1) + 1) + 1) + 1) + 1) + 1) + 1) + 1) + 1) + 1) + 1) (vp_nar .byte ((a3 >>> (24 &&& 31)).toInt8.toInt32)))) ++ W0) s _ _ := hW
    refine lv_aload_n hx hb dX4_feed_101 rfl (lv_at hl 2 rfl) ?_
    refine lv_dup hx hb dX4_feed_102 rfl ?_
    refine gM0_taped hF hW q1127 (v := nI ((((((((((((tp + 1) + 1) + 1) + 1) + 1) + 1) + 1) + 1) + 1) + 1) + 1) + 1)) (rfl) dX4_feed_103 ?_
    refine lv_iconst (v := 1) hx hb dX4_feed_106 (by decide) ?_
    refine lv_iadd hx hb dX4_feed_107 ?_
    refine lv_eqi (show (nI ((((((((((((tp + 1) + 1) + 1) + 1) + 1) + 1) + 1) + 1) + 1) + 1) + 1) + 1)) + 1 = nI (((((((((((((tp + 1) + 1) + 1) + 1) + 1) + 1) + 1) + 1) + 1) + 1) + 1) + 1) + 1) from nI_add ((((((((((((tp + 1) + 1) + 1) + 1) + 1) + 1) + 1) + 1) + 1) + 1) + 1) + 1) 1) ?_
    refine pM0_taped hF hW q1127 dX4_feed_108 (fun H locs hW => ?_)
    have hW : pM G (MWl G ad (xa (xi (xi y 0 0) 11 (nI (((((((((((((tp + 1) + 1) + 1) + 1) + 1) + 1) + 1) + 1) + 1) + 1) + 1) + 1) + 1))) 13 (va_up (va_up (va_up (va_up (va_up (va_up (va_up (va_up (va_up (va_up (va_up (va_up (va_up (y.2.1 13) tp (vp_nar .byte ((a0 >>> (24 &&& 31)).toInt8.toInt32))) (tp + 1) (vp_nar .byte ((a0 >>> (16 &&& 31)).toInt8.toInt32))) ((tp + 1) + 1) (vp_nar .byte ((a0 >>> (8 &&& 31)).toInt8.toInt32))) (((tp + 1) + 1) + 1) (vp_nar .byte ((a0 >>> (0 &&& 31)).toInt8.toInt32))) ((((tp + 1) + 1) + 1) + 1) (vp_nar .byte ((a1 >>> (24 &&& 31)).toInt8.toInt32))) (((((tp + 1) + 1) + 1) + 1) + 1) (vp_nar .byte ((a1 >>> (16 &&& 31)).toInt8.toInt32))) ((((((tp + 1) + 1) + 1) + 1) + 1) + 1) (vp_nar .byte ((a1 >>> (8 &&& 31)).toInt8.toInt32))) (((((((tp + 1) + 1) + 1) + 1) + 1) + 1) + 1) (vp_nar .byte ((a1 >>> (0 &&& 31)).toInt8.toInt32))) ((((((((tp + 1) + 1) + 1) + 1) + 1) + 1) + 1) + 1) (vp_nar .byte ((a2 >>> (24 &&& 31)).toInt8.toInt32))) (((((((((tp + 1) + 1) + 1) + 1) + 1) + 1) + 1) + 1) + 1) (vp_nar .byte ((a2 >>> (16 &&& 31)).toInt8.toInt32))) ((((((((((tp + 1) + 1) + 1) + 1) + 1) + 1) + 1) + 1) + 1) + 1) (vp_nar .byte ((a2 >>> (8 &&& 31)).toInt8.toInt32))) (((((((((((tp + 1) + 1) + 1) + 1) + 1) + 1) + 1) + 1) + 1) + 1) + 1) (vp_nar .byte ((a2 >>> (0 &&& 31)).toInt8.toInt32))) ((((((((((((tp + 1) + 1) + 1) + 1) + 1) + 1) + 1) + 1) + 1) + 1) + 1) + 1) (vp_nar .byte ((a3 >>> (24 &&& 31)).toInt8.toInt32)))) ++ W0) s _ _ := hW
    refine lv_iinc (v := 13) (lv' := [(6, .int 13), (7, .int a3), (0, .ref (ad 0)), (1, .int a0), (2, .int a1), (3, .int a2), (4, .int a3), (5, .int a4)]) hx hb dX4_feed_111 hl (k := 1) rfl (by decide) (by decide) rfl (fun ls hl => ?_)
    refine lv_goto (tgt := 23) hx hb dX4_feed_114 (by decide) ?_
    refine lv_iload hx hb dX4_feed_23 (lv_at hl 0 rfl) ?_
    refine lv_bipush (v := 20) hx hb dX4_feed_25 (by decide) ?_
    refine lv_icmp_ge (tgt := 117) hx hb dX4_feed_27 (by decide) (fun c_27 => absurd c_27 (by decide)) (fun c_27 => ?_)
    refine lv_iload hx hb dX4_feed_30 (lv_at hl 0 rfl) ?_
    refine lv_iconst (v := 4) hx hb dX4_feed_32 (by decide) ?_
    refine lv_icmp_ge (tgt := 40) hx hb dX4_feed_33 (by decide) (fun c_33 => ?_) (fun c_33 => absurd c_33 (by decide))
    refine lv_iload hx hb dX4_feed_40 (lv_at hl 0 rfl) ?_
    refine lv_bipush (v := 8) hx hb dX4_feed_42 (by decide) ?_
    refine lv_icmp_ge (tgt := 51) hx hb dX4_feed_44 (by decide) (fun c_44 => ?_) (fun c_44 => absurd c_44 (by decide))
    refine lv_iload hx hb dX4_feed_51 (lv_at hl 0 rfl) ?_
    refine lv_bipush (v := 12) hx hb dX4_feed_53 (by decide) ?_
    refine lv_icmp_ge (tgt := 62) hx hb dX4_feed_55 (by decide) (fun c_55 => ?_) (fun c_55 => absurd c_55 (by decide))
    refine lv_iload hx hb dX4_feed_62 (lv_at hl 0 rfl) ?_
    refine lv_bipush (v := 16) hx hb dX4_feed_64 (by decide) ?_
    refine lv_icmp_ge (tgt := 74) hx hb dX4_feed_66 (by decide) (fun c_66 => absurd c_66 (by decide)) (fun c_66 => ?_)
    refine lv_iload hx hb dX4_feed_69 (lv_at hl 6 rfl) ?_
    refine lv_goto (tgt := 76) hx hb dX4_feed_71 (by decide) ?_
    refine lv_istore (lv' := [(7, .int a3), (6, .int 13), (0, .ref (ad 0)), (1, .int a0), (2, .int a1), (3, .int a2), (4, .int a3), (5, .int a4)]) hx hb dX4_feed_76 hl (by decide) rfl (fun ls hl => ?_)
    refine lv_aload_n hx hb dX4_feed_78 rfl (lv_at hl 2 rfl) ?_
    refine gM0_tape hF hW q1126 dX4_feed_79 ?_
    refine lv_aload_n hx hb dX4_feed_82 rfl (lv_at hl 2 rfl) ?_
    refine gM0_taped hF hW q1127 (v := nI (((((((((((((tp + 1) + 1) + 1) + 1) + 1) + 1) + 1) + 1) + 1) + 1) + 1) + 1) + 1)) (rfl) dX4_feed_83 ?_
    refine lv_iload hx hb dX4_feed_86 (lv_at hl 0 rfl) ?_
    refine lv_bipush (v := 24) hx hb dX4_feed_88 (by decide) ?_
    refine lv_bipush (v := 8) hx hb dX4_feed_90 (by decide) ?_
    refine lv_iload hx hb dX4_feed_92 (lv_at hl 1 rfl) ?_
    refine lv_iconst (v := 4) hx hb dX4_feed_94 (by decide) ?_
    refine lv_irem hx hb dX4_feed_95 (by decide) ?_
    refine lv_eqi (show 13 - 13 / 4 * 4 = 1 from by decide) ?_
    refine lv_imul hx hb dX4_feed_96 ?_
    refine lv_eqi (show 8 * 1 = 8 from by decide) ?_
    refine lv_isub hx hb dX4_feed_97 ?_
    refine lv_eqi (show 24 - 8 = 16 from by decide) ?_
    refine lv_ishr hx hb dX4_feed_98 ?_
    refine lv_i2b hx hb dX4_feed_99 rfl ?_
    refine sM21 hF hW (j := (((((((((((((tp + 1) + 1) + 1) + 1) + 1) + 1) + 1) + 1) + 1) + 1) + 1) + 1) + 1)) (rfl) (by omega) dX4_feed_100 (fun H locs hW => ?_)
    have hW : pM G (MWl G ad (xa (xi (xi y 0 0) 11 (nI (((((((((((((tp + 1) + 1) + 1) + 1) + 1) + 1) + 1) + 1) + 1) + 1) + 1) + 1) + 1))) 13 (va_up (va_up (va_up (va_up (va_up (va_up (va_up (va_up (va_up (va_up (va_up (va_up (va_up (va_up (y.2.1 13) tp (vp_nar .byte ((a0 >>> (24 &&& 31)).toInt8.toInt32))) (tp + 1) (vp_nar .byte ((a0 >>> (16 &&& 31)).toInt8.toInt32))) ((tp + 1) + 1) (vp_nar .byte ((a0 >>> (8 &&& 31)).toInt8.toInt32))) (((tp + 1) + 1) + 1) (vp_nar .byte ((a0 >>> (0 &&& 31)).toInt8.toInt32))) ((((tp + 1) + 1) + 1) + 1) (vp_nar .byte ((a1 >>> (24 &&& 31)).toInt8.toInt32))) (((((tp + 1) + 1) + 1) + 1) + 1) (vp_nar .byte ((a1 >>> (16 &&& 31)).toInt8.toInt32))) ((((((tp + 1) + 1) + 1) + 1) + 1) + 1) (vp_nar .byte ((a1 >>> (8 &&& 31)).toInt8.toInt32))) (((((((tp + 1) + 1) + 1) + 1) + 1) + 1) + 1) (vp_nar .byte ((a1 >>> (0 &&& 31)).toInt8.toInt32))) ((((((((tp + 1) + 1) + 1) + 1) + 1) + 1) + 1) + 1) (vp_nar .byte ((a2 >>> (24 &&& 31)).toInt8.toInt32))) (((((((((tp + 1) + 1) + 1) + 1) + 1) + 1) + 1) + 1) + 1) (vp_nar .byte ((a2 >>> (16 &&& 31)).toInt8.toInt32))) ((((((((((tp + 1) + 1) + 1) + 1) + 1) + 1) + 1) + 1) + 1) + 1) (vp_nar .byte ((a2 >>> (8 &&& 31)).toInt8.toInt32))) (((((((((((tp + 1) + 1) + 1) + 1) + 1) + 1) + 1) + 1) + 1) + 1) + 1) (vp_nar .byte ((a2 >>> (0 &&& 31)).toInt8.toInt32))) ((((((((((((tp + 1) + 1) + 1) + 1) + 1) + 1) + 1) + 1) + 1) + 1) + 1) + 1) (vp_nar .byte ((a3 >>> (24 &&& 31)).toInt8.toInt32))) (((((((((((((tp + 1) + 1) + 1) + 1) + 1) + 1) + 1) + 1) + 1) + 1) + 1) + 1) + 1) (vp_nar .byte ((a3 >>> (16 &&& 31)).toInt8.toInt32)))) ++ W0) s _ _ := hW
    refine lv_aload_n hx hb dX4_feed_101 rfl (lv_at hl 2 rfl) ?_
    refine lv_dup hx hb dX4_feed_102 rfl ?_
    refine gM0_taped hF hW q1127 (v := nI (((((((((((((tp + 1) + 1) + 1) + 1) + 1) + 1) + 1) + 1) + 1) + 1) + 1) + 1) + 1)) (rfl) dX4_feed_103 ?_
    refine lv_iconst (v := 1) hx hb dX4_feed_106 (by decide) ?_
    refine lv_iadd hx hb dX4_feed_107 ?_
    refine lv_eqi (show (nI (((((((((((((tp + 1) + 1) + 1) + 1) + 1) + 1) + 1) + 1) + 1) + 1) + 1) + 1) + 1)) + 1 = nI ((((((((((((((tp + 1) + 1) + 1) + 1) + 1) + 1) + 1) + 1) + 1) + 1) + 1) + 1) + 1) + 1) from nI_add (((((((((((((tp + 1) + 1) + 1) + 1) + 1) + 1) + 1) + 1) + 1) + 1) + 1) + 1) + 1) 1) ?_
    refine pM0_taped hF hW q1127 dX4_feed_108 (fun H locs hW => ?_)
    have hW : pM G (MWl G ad (xa (xi (xi y 0 0) 11 (nI ((((((((((((((tp + 1) + 1) + 1) + 1) + 1) + 1) + 1) + 1) + 1) + 1) + 1) + 1) + 1) + 1))) 13 (va_up (va_up (va_up (va_up (va_up (va_up (va_up (va_up (va_up (va_up (va_up (va_up (va_up (va_up (y.2.1 13) tp (vp_nar .byte ((a0 >>> (24 &&& 31)).toInt8.toInt32))) (tp + 1) (vp_nar .byte ((a0 >>> (16 &&& 31)).toInt8.toInt32))) ((tp + 1) + 1) (vp_nar .byte ((a0 >>> (8 &&& 31)).toInt8.toInt32))) (((tp + 1) + 1) + 1) (vp_nar .byte ((a0 >>> (0 &&& 31)).toInt8.toInt32))) ((((tp + 1) + 1) + 1) + 1) (vp_nar .byte ((a1 >>> (24 &&& 31)).toInt8.toInt32))) (((((tp + 1) + 1) + 1) + 1) + 1) (vp_nar .byte ((a1 >>> (16 &&& 31)).toInt8.toInt32))) ((((((tp + 1) + 1) + 1) + 1) + 1) + 1) (vp_nar .byte ((a1 >>> (8 &&& 31)).toInt8.toInt32))) (((((((tp + 1) + 1) + 1) + 1) + 1) + 1) + 1) (vp_nar .byte ((a1 >>> (0 &&& 31)).toInt8.toInt32))) ((((((((tp + 1) + 1) + 1) + 1) + 1) + 1) + 1) + 1) (vp_nar .byte ((a2 >>> (24 &&& 31)).toInt8.toInt32))) (((((((((tp + 1) + 1) + 1) + 1) + 1) + 1) + 1) + 1) + 1) (vp_nar .byte ((a2 >>> (16 &&& 31)).toInt8.toInt32))) ((((((((((tp + 1) + 1) + 1) + 1) + 1) + 1) + 1) + 1) + 1) + 1) (vp_nar .byte ((a2 >>> (8 &&& 31)).toInt8.toInt32))) (((((((((((tp + 1) + 1) + 1) + 1) + 1) + 1) + 1) + 1) + 1) + 1) + 1) (vp_nar .byte ((a2 >>> (0 &&& 31)).toInt8.toInt32))) ((((((((((((tp + 1) + 1) + 1) + 1) + 1) + 1) + 1) + 1) + 1) + 1) + 1) + 1) (vp_nar .byte ((a3 >>> (24 &&& 31)).toInt8.toInt32))) (((((((((((((tp + 1) + 1) + 1) + 1) + 1) + 1) + 1) + 1) + 1) + 1) + 1) + 1) + 1) (vp_nar .byte ((a3 >>> (16 &&& 31)).toInt8.toInt32)))) ++ W0) s _ _ := hW
    refine lv_iinc (v := 14) (lv' := [(6, .int 14), (7, .int a3), (0, .ref (ad 0)), (1, .int a0), (2, .int a1), (3, .int a2), (4, .int a3), (5, .int a4)]) hx hb dX4_feed_111 hl (k := 1) rfl (by decide) (by decide) rfl (fun ls hl => ?_)
    refine lv_goto (tgt := 23) hx hb dX4_feed_114 (by decide) ?_
    refine lv_iload hx hb dX4_feed_23 (lv_at hl 0 rfl) ?_
    refine lv_bipush (v := 20) hx hb dX4_feed_25 (by decide) ?_
    refine lv_icmp_ge (tgt := 117) hx hb dX4_feed_27 (by decide) (fun c_27 => absurd c_27 (by decide)) (fun c_27 => ?_)
    refine lv_iload hx hb dX4_feed_30 (lv_at hl 0 rfl) ?_
    refine lv_iconst (v := 4) hx hb dX4_feed_32 (by decide) ?_
    refine lv_icmp_ge (tgt := 40) hx hb dX4_feed_33 (by decide) (fun c_33 => ?_) (fun c_33 => absurd c_33 (by decide))
    refine lv_iload hx hb dX4_feed_40 (lv_at hl 0 rfl) ?_
    refine lv_bipush (v := 8) hx hb dX4_feed_42 (by decide) ?_
    refine lv_icmp_ge (tgt := 51) hx hb dX4_feed_44 (by decide) (fun c_44 => ?_) (fun c_44 => absurd c_44 (by decide))
    refine lv_iload hx hb dX4_feed_51 (lv_at hl 0 rfl) ?_
    refine lv_bipush (v := 12) hx hb dX4_feed_53 (by decide) ?_
    refine lv_icmp_ge (tgt := 62) hx hb dX4_feed_55 (by decide) (fun c_55 => ?_) (fun c_55 => absurd c_55 (by decide))
    refine lv_iload hx hb dX4_feed_62 (lv_at hl 0 rfl) ?_
    refine lv_bipush (v := 16) hx hb dX4_feed_64 (by decide) ?_
    refine lv_icmp_ge (tgt := 74) hx hb dX4_feed_66 (by decide) (fun c_66 => absurd c_66 (by decide)) (fun c_66 => ?_)
    refine lv_iload hx hb dX4_feed_69 (lv_at hl 6 rfl) ?_
    refine lv_goto (tgt := 76) hx hb dX4_feed_71 (by decide) ?_
    refine lv_istore (lv' := [(7, .int a3), (6, .int 14), (0, .ref (ad 0)), (1, .int a0), (2, .int a1), (3, .int a2), (4, .int a3), (5, .int a4)]) hx hb dX4_feed_76 hl (by decide) rfl (fun ls hl => ?_)
    refine lv_aload_n hx hb dX4_feed_78 rfl (lv_at hl 2 rfl) ?_
    refine gM0_tape hF hW q1126 dX4_feed_79 ?_
    refine lv_aload_n hx hb dX4_feed_82 rfl (lv_at hl 2 rfl) ?_
    refine gM0_taped hF hW q1127 (v := nI ((((((((((((((tp + 1) + 1) + 1) + 1) + 1) + 1) + 1) + 1) + 1) + 1) + 1) + 1) + 1) + 1)) (rfl) dX4_feed_83 ?_
    refine lv_iload hx hb dX4_feed_86 (lv_at hl 0 rfl) ?_
    refine lv_bipush (v := 24) hx hb dX4_feed_88 (by decide) ?_
    refine lv_bipush (v := 8) hx hb dX4_feed_90 (by decide) ?_
    refine lv_iload hx hb dX4_feed_92 (lv_at hl 1 rfl) ?_
    refine lv_iconst (v := 4) hx hb dX4_feed_94 (by decide) ?_
    refine lv_irem hx hb dX4_feed_95 (by decide) ?_
    refine lv_eqi (show 14 - 14 / 4 * 4 = 2 from by decide) ?_
    refine lv_imul hx hb dX4_feed_96 ?_
    refine lv_eqi (show 8 * 2 = 16 from by decide) ?_
    refine lv_isub hx hb dX4_feed_97 ?_
    refine lv_eqi (show 24 - 16 = 8 from by decide) ?_
    refine lv_ishr hx hb dX4_feed_98 ?_
    refine lv_i2b hx hb dX4_feed_99 rfl ?_
    refine sM21 hF hW (j := ((((((((((((((tp + 1) + 1) + 1) + 1) + 1) + 1) + 1) + 1) + 1) + 1) + 1) + 1) + 1) + 1)) (rfl) (by omega) dX4_feed_100 (fun H locs hW => ?_)
    have hW : pM G (MWl G ad (xa (xi (xi y 0 0) 11 (nI ((((((((((((((tp + 1) + 1) + 1) + 1) + 1) + 1) + 1) + 1) + 1) + 1) + 1) + 1) + 1) + 1))) 13 (va_up (va_up (va_up (va_up (va_up (va_up (va_up (va_up (va_up (va_up (va_up (va_up (va_up (va_up (va_up (y.2.1 13) tp (vp_nar .byte ((a0 >>> (24 &&& 31)).toInt8.toInt32))) (tp + 1) (vp_nar .byte ((a0 >>> (16 &&& 31)).toInt8.toInt32))) ((tp + 1) + 1) (vp_nar .byte ((a0 >>> (8 &&& 31)).toInt8.toInt32))) (((tp + 1) + 1) + 1) (vp_nar .byte ((a0 >>> (0 &&& 31)).toInt8.toInt32))) ((((tp + 1) + 1) + 1) + 1) (vp_nar .byte ((a1 >>> (24 &&& 31)).toInt8.toInt32))) (((((tp + 1) + 1) + 1) + 1) + 1) (vp_nar .byte ((a1 >>> (16 &&& 31)).toInt8.toInt32))) ((((((tp + 1) + 1) + 1) + 1) + 1) + 1) (vp_nar .byte ((a1 >>> (8 &&& 31)).toInt8.toInt32))) (((((((tp + 1) + 1) + 1) + 1) + 1) + 1) + 1) (vp_nar .byte ((a1 >>> (0 &&& 31)).toInt8.toInt32))) ((((((((tp + 1) + 1) + 1) + 1) + 1) + 1) + 1) + 1) (vp_nar .byte ((a2 >>> (24 &&& 31)).toInt8.toInt32))) (((((((((tp + 1) + 1) + 1) + 1) + 1) + 1) + 1) + 1) + 1) (vp_nar .byte ((a2 >>> (16 &&& 31)).toInt8.toInt32))) ((((((((((tp + 1) + 1) + 1) + 1) + 1) + 1) + 1) + 1) + 1) + 1) (vp_nar .byte ((a2 >>> (8 &&& 31)).toInt8.toInt32))) (((((((((((tp + 1) + 1) + 1) + 1) + 1) + 1) + 1) + 1) + 1) + 1) + 1) (vp_nar .byte ((a2 >>> (0 &&& 31)).toInt8.toInt32))) ((((((((((((tp + 1) + 1) + 1) + 1) + 1) + 1) + 1) + 1) + 1) + 1) + 1) + 1) (vp_nar .byte ((a3 >>> (24 &&& 31)).toInt8.toInt32))) (((((((((((((tp + 1) + 1) + 1) + 1) + 1) + 1) + 1) + 1) + 1) + 1) + 1) + 1) + 1) (vp_nar .byte ((a3 >>> (16 &&& 31)).toInt8.toInt32))) ((((((((((((((tp + 1) + 1) + 1) + 1) + 1) + 1) + 1) + 1) + 1) + 1) + 1) + 1) + 1) + 1) (vp_nar .byte ((a3 >>> (8 &&& 31)).toInt8.toInt32)))) ++ W0) s _ _ := hW
    refine lv_aload_n hx hb dX4_feed_101 rfl (lv_at hl 2 rfl) ?_
    refine lv_dup hx hb dX4_feed_102 rfl ?_
    refine gM0_taped hF hW q1127 (v := nI ((((((((((((((tp + 1) + 1) + 1) + 1) + 1) + 1) + 1) + 1) + 1) + 1) + 1) + 1) + 1) + 1)) (rfl) dX4_feed_103 ?_
    refine lv_iconst (v := 1) hx hb dX4_feed_106 (by decide) ?_
    refine lv_iadd hx hb dX4_feed_107 ?_
    refine lv_eqi (show (nI ((((((((((((((tp + 1) + 1) + 1) + 1) + 1) + 1) + 1) + 1) + 1) + 1) + 1) + 1) + 1) + 1)) + 1 = nI (((((((((((((((tp + 1) + 1) + 1) + 1) + 1) + 1) + 1) + 1) + 1) + 1) + 1) + 1) + 1) + 1) + 1) from nI_add ((((((((((((((tp + 1) + 1) + 1) + 1) + 1) + 1) + 1) + 1) + 1) + 1) + 1) + 1) + 1) + 1) 1) ?_
    refine pM0_taped hF hW q1127 dX4_feed_108 (fun H locs hW => ?_)
    have hW : pM G (MWl G ad (xa (xi (xi y 0 0) 11 (nI (((((((((((((((tp + 1) + 1) + 1) + 1) + 1) + 1) + 1) + 1) + 1) + 1) + 1) + 1) + 1) + 1) + 1))) 13 (va_up (va_up (va_up (va_up (va_up (va_up (va_up (va_up (va_up (va_up (va_up (va_up (va_up (va_up (va_up (y.2.1 13) tp (vp_nar .byte ((a0 >>> (24 &&& 31)).toInt8.toInt32))) (tp + 1) (vp_nar .byte ((a0 >>> (16 &&& 31)).toInt8.toInt32))) ((tp + 1) + 1) (vp_nar .byte ((a0 >>> (8 &&& 31)).toInt8.toInt32))) (((tp + 1) + 1) + 1) (vp_nar .byte ((a0 >>> (0 &&& 31)).toInt8.toInt32))) ((((tp + 1) + 1) + 1) + 1) (vp_nar .byte ((a1 >>> (24 &&& 31)).toInt8.toInt32))) (((((tp + 1) + 1) + 1) + 1) + 1) (vp_nar .byte ((a1 >>> (16 &&& 31)).toInt8.toInt32))) ((((((tp + 1) + 1) + 1) + 1) + 1) + 1) (vp_nar .byte ((a1 >>> (8 &&& 31)).toInt8.toInt32))) (((((((tp + 1) + 1) + 1) + 1) + 1) + 1) + 1) (vp_nar .byte ((a1 >>> (0 &&& 31)).toInt8.toInt32))) ((((((((tp + 1) + 1) + 1) + 1) + 1) + 1) + 1) + 1) (vp_nar .byte ((a2 >>> (24 &&& 31)).toInt8.toInt32))) (((((((((tp + 1) + 1) + 1) + 1) + 1) + 1) + 1) + 1) + 1) (vp_nar .byte ((a2 >>> (16 &&& 31)).toInt8.toInt32))) ((((((((((tp + 1) + 1) + 1) + 1) + 1) + 1) + 1) + 1) + 1) + 1) (vp_nar .byte ((a2 >>> (8 &&& 31)).toInt8.toInt32))) (((((((((((tp + 1) + 1) + 1) + 1) + 1) + 1) + 1) + 1) + 1) + 1) + 1) (vp_nar .byte ((a2 >>> (0 &&& 31)).toInt8.toInt32))) ((((((((((((tp + 1) + 1) + 1) + 1) + 1) + 1) + 1) + 1) + 1) + 1) + 1) + 1) (vp_nar .byte ((a3 >>> (24 &&& 31)).toInt8.toInt32))) (((((((((((((tp + 1) + 1) + 1) + 1) + 1) + 1) + 1) + 1) + 1) + 1) + 1) + 1) + 1) (vp_nar .byte ((a3 >>> (16 &&& 31)).toInt8.toInt32))) ((((((((((((((tp + 1) + 1) + 1) + 1) + 1) + 1) + 1) + 1) + 1) + 1) + 1) + 1) + 1) + 1) (vp_nar .byte ((a3 >>> (8 &&& 31)).toInt8.toInt32)))) ++ W0) s _ _ := hW
    refine lv_iinc (v := 15) (lv' := [(6, .int 15), (7, .int a3), (0, .ref (ad 0)), (1, .int a0), (2, .int a1), (3, .int a2), (4, .int a3), (5, .int a4)]) hx hb dX4_feed_111 hl (k := 1) rfl (by decide) (by decide) rfl (fun ls hl => ?_)
    refine lv_goto (tgt := 23) hx hb dX4_feed_114 (by decide) ?_
    refine lv_iload hx hb dX4_feed_23 (lv_at hl 0 rfl) ?_
    refine lv_bipush (v := 20) hx hb dX4_feed_25 (by decide) ?_
    refine lv_icmp_ge (tgt := 117) hx hb dX4_feed_27 (by decide) (fun c_27 => absurd c_27 (by decide)) (fun c_27 => ?_)
    refine lv_iload hx hb dX4_feed_30 (lv_at hl 0 rfl) ?_
    refine lv_iconst (v := 4) hx hb dX4_feed_32 (by decide) ?_
    refine lv_icmp_ge (tgt := 40) hx hb dX4_feed_33 (by decide) (fun c_33 => ?_) (fun c_33 => absurd c_33 (by decide))
    refine lv_iload hx hb dX4_feed_40 (lv_at hl 0 rfl) ?_
    refine lv_bipush (v := 8) hx hb dX4_feed_42 (by decide) ?_
    refine lv_icmp_ge (tgt := 51) hx hb dX4_feed_44 (by decide) (fun c_44 => ?_) (fun c_44 => absurd c_44 (by decide))
    refine lv_iload hx hb dX4_feed_51 (lv_at hl 0 rfl) ?_
    refine lv_bipush (v := 12) hx hb dX4_feed_53 (by decide) ?_
    refine lv_icmp_ge (tgt := 62) hx hb dX4_feed_55 (by decide) (fun c_55 => ?_) (fun c_55 => absurd c_55 (by decide))
    refine lv_iload hx hb dX4_feed_62 (lv_at hl 0 rfl) ?_
    refine lv_bipush (v := 16) hx hb dX4_feed_64 (by decide) ?_
    refine lv_icmp_ge (tgt := 74) hx hb dX4_feed_66 (by decide) (fun c_66 => absurd c_66 (by decide)) (fun c_66 => ?_)
    refine lv_iload hx hb dX4_feed_69 (lv_at hl 6 rfl) ?_
    refine lv_goto (tgt := 76) hx hb dX4_feed_71 (by decide) ?_
    refine lv_istore (lv' := [(7, .int a3), (6, .int 15), (0, .ref (ad 0)), (1, .int a0), (2, .int a1), (3, .int a2), (4, .int a3), (5, .int a4)]) hx hb dX4_feed_76 hl (by decide) rfl (fun ls hl => ?_)
    refine lv_aload_n hx hb dX4_feed_78 rfl (lv_at hl 2 rfl) ?_
    refine gM0_tape hF hW q1126 dX4_feed_79 ?_
    refine lv_aload_n hx hb dX4_feed_82 rfl (lv_at hl 2 rfl) ?_
    refine gM0_taped hF hW q1127 (v := nI (((((((((((((((tp + 1) + 1) + 1) + 1) + 1) + 1) + 1) + 1) + 1) + 1) + 1) + 1) + 1) + 1) + 1)) (rfl) dX4_feed_83 ?_
    refine lv_iload hx hb dX4_feed_86 (lv_at hl 0 rfl) ?_
    refine lv_bipush (v := 24) hx hb dX4_feed_88 (by decide) ?_
    refine lv_bipush (v := 8) hx hb dX4_feed_90 (by decide) ?_
    refine lv_iload hx hb dX4_feed_92 (lv_at hl 1 rfl) ?_
    refine lv_iconst (v := 4) hx hb dX4_feed_94 (by decide) ?_
    refine lv_irem hx hb dX4_feed_95 (by decide) ?_
    refine lv_eqi (show 15 - 15 / 4 * 4 = 3 from by decide) ?_
    refine lv_imul hx hb dX4_feed_96 ?_
    refine lv_eqi (show 8 * 3 = 24 from by decide) ?_
    refine lv_isub hx hb dX4_feed_97 ?_
    refine lv_eqi (show 24 - 24 = 0 from by decide) ?_
    refine lv_ishr hx hb dX4_feed_98 ?_
    refine lv_i2b hx hb dX4_feed_99 rfl ?_
    refine sM21 hF hW (j := (((((((((((((((tp + 1) + 1) + 1) + 1) + 1) + 1) + 1) + 1) + 1) + 1) + 1) + 1) + 1) + 1) + 1)) (rfl) (by omega) dX4_feed_100 (fun H locs hW => ?_)
    have hW : pM G (MWl G ad (xa (xi (xi y 0 0) 11 (nI (((((((((((((((tp + 1) + 1) + 1) + 1) + 1) + 1) + 1) + 1) + 1) + 1) + 1) + 1) + 1) + 1) + 1))) 13 (va_up (va_up (va_up (va_up (va_up (va_up (va_up (va_up (va_up (va_up (va_up (va_up (va_up (va_up (va_up (va_up (y.2.1 13) tp (vp_nar .byte ((a0 >>> (24 &&& 31)).toInt8.toInt32))) (tp + 1) (vp_nar .byte ((a0 >>> (16 &&& 31)).toInt8.toInt32))) ((tp + 1) + 1) (vp_nar .byte ((a0 >>> (8 &&& 31)).toInt8.toInt32))) (((tp + 1) + 1) + 1) (vp_nar .byte ((a0 >>> (0 &&& 31)).toInt8.toInt32))) ((((tp + 1) + 1) + 1) + 1) (vp_nar .byte ((a1 >>> (24 &&& 31)).toInt8.toInt32))) (((((tp + 1) + 1) + 1) + 1) + 1) (vp_nar .byte ((a1 >>> (16 &&& 31)).toInt8.toInt32))) ((((((tp + 1) + 1) + 1) + 1) + 1) + 1) (vp_nar .byte ((a1 >>> (8 &&& 31)).toInt8.toInt32))) (((((((tp + 1) + 1) + 1) + 1) + 1) + 1) + 1) (vp_nar .byte ((a1 >>> (0 &&& 31)).toInt8.toInt32))) ((((((((tp + 1) + 1) + 1) + 1) + 1) + 1) + 1) + 1) (vp_nar .byte ((a2 >>> (24 &&& 31)).toInt8.toInt32))) (((((((((tp + 1) + 1) + 1) + 1) + 1) + 1) + 1) + 1) + 1) (vp_nar .byte ((a2 >>> (16 &&& 31)).toInt8.toInt32))) ((((((((((tp + 1) + 1) + 1) + 1) + 1) + 1) + 1) + 1) + 1) + 1) (vp_nar .byte ((a2 >>> (8 &&& 31)).toInt8.toInt32))) (((((((((((tp + 1) + 1) + 1) + 1) + 1) + 1) + 1) + 1) + 1) + 1) + 1) (vp_nar .byte ((a2 >>> (0 &&& 31)).toInt8.toInt32))) ((((((((((((tp + 1) + 1) + 1) + 1) + 1) + 1) + 1) + 1) + 1) + 1) + 1) + 1) (vp_nar .byte ((a3 >>> (24 &&& 31)).toInt8.toInt32))) (((((((((((((tp + 1) + 1) + 1) + 1) + 1) + 1) + 1) + 1) + 1) + 1) + 1) + 1) + 1) (vp_nar .byte ((a3 >>> (16 &&& 31)).toInt8.toInt32))) ((((((((((((((tp + 1) + 1) + 1) + 1) + 1) + 1) + 1) + 1) + 1) + 1) + 1) + 1) + 1) + 1) (vp_nar .byte ((a3 >>> (8 &&& 31)).toInt8.toInt32))) (((((((((((((((tp + 1) + 1) + 1) + 1) + 1) + 1) + 1) + 1) + 1) + 1) + 1) + 1) + 1) + 1) + 1) (vp_nar .byte ((a3 >>> (0 &&& 31)).toInt8.toInt32)))) ++ W0) s _ _ := hW
    refine lv_aload_n hx hb dX4_feed_101 rfl (lv_at hl 2 rfl) ?_
    refine lv_dup hx hb dX4_feed_102 rfl ?_
    refine gM0_taped hF hW q1127 (v := nI (((((((((((((((tp + 1) + 1) + 1) + 1) + 1) + 1) + 1) + 1) + 1) + 1) + 1) + 1) + 1) + 1) + 1)) (rfl) dX4_feed_103 ?_
    refine lv_iconst (v := 1) hx hb dX4_feed_106 (by decide) ?_
    refine lv_iadd hx hb dX4_feed_107 ?_
    refine lv_eqi (show (nI (((((((((((((((tp + 1) + 1) + 1) + 1) + 1) + 1) + 1) + 1) + 1) + 1) + 1) + 1) + 1) + 1) + 1)) + 1 = nI ((((((((((((((((tp + 1) + 1) + 1) + 1) + 1) + 1) + 1) + 1) + 1) + 1) + 1) + 1) + 1) + 1) + 1) + 1) from nI_add (((((((((((((((tp + 1) + 1) + 1) + 1) + 1) + 1) + 1) + 1) + 1) + 1) + 1) + 1) + 1) + 1) + 1) 1) ?_
    refine pM0_taped hF hW q1127 dX4_feed_108 (fun H locs hW => ?_)
    have hW : pM G (MWl G ad (xa (xi (xi y 0 0) 11 (nI ((((((((((((((((tp + 1) + 1) + 1) + 1) + 1) + 1) + 1) + 1) + 1) + 1) + 1) + 1) + 1) + 1) + 1) + 1))) 13 (va_up (va_up (va_up (va_up (va_up (va_up (va_up (va_up (va_up (va_up (va_up (va_up (va_up (va_up (va_up (va_up (y.2.1 13) tp (vp_nar .byte ((a0 >>> (24 &&& 31)).toInt8.toInt32))) (tp + 1) (vp_nar .byte ((a0 >>> (16 &&& 31)).toInt8.toInt32))) ((tp + 1) + 1) (vp_nar .byte ((a0 >>> (8 &&& 31)).toInt8.toInt32))) (((tp + 1) + 1) + 1) (vp_nar .byte ((a0 >>> (0 &&& 31)).toInt8.toInt32))) ((((tp + 1) + 1) + 1) + 1) (vp_nar .byte ((a1 >>> (24 &&& 31)).toInt8.toInt32))) (((((tp + 1) + 1) + 1) + 1) + 1) (vp_nar .byte ((a1 >>> (16 &&& 31)).toInt8.toInt32))) ((((((tp + 1) + 1) + 1) + 1) + 1) + 1) (vp_nar .byte ((a1 >>> (8 &&& 31)).toInt8.toInt32))) (((((((tp + 1) + 1) + 1) + 1) + 1) + 1) + 1) (vp_nar .byte ((a1 >>> (0 &&& 31)).toInt8.toInt32))) ((((((((tp + 1) + 1) + 1) + 1) + 1) + 1) + 1) + 1) (vp_nar .byte ((a2 >>> (24 &&& 31)).toInt8.toInt32))) (((((((((tp + 1) + 1) + 1) + 1) + 1) + 1) + 1) + 1) + 1) (vp_nar .byte ((a2 >>> (16 &&& 31)).toInt8.toInt32))) ((((((((((tp + 1) + 1) + 1) + 1) + 1) + 1) + 1) + 1) + 1) + 1) (vp_nar .byte ((a2 >>> (8 &&& 31)).toInt8.toInt32))) (((((((((((tp + 1) + 1) + 1) + 1) + 1) + 1) + 1) + 1) + 1) + 1) + 1) (vp_nar .byte ((a2 >>> (0 &&& 31)).toInt8.toInt32))) ((((((((((((tp + 1) + 1) + 1) + 1) + 1) + 1) + 1) + 1) + 1) + 1) + 1) + 1) (vp_nar .byte ((a3 >>> (24 &&& 31)).toInt8.toInt32))) (((((((((((((tp + 1) + 1) + 1) + 1) + 1) + 1) + 1) + 1) + 1) + 1) + 1) + 1) + 1) (vp_nar .byte ((a3 >>> (16 &&& 31)).toInt8.toInt32))) ((((((((((((((tp + 1) + 1) + 1) + 1) + 1) + 1) + 1) + 1) + 1) + 1) + 1) + 1) + 1) + 1) (vp_nar .byte ((a3 >>> (8 &&& 31)).toInt8.toInt32))) (((((((((((((((tp + 1) + 1) + 1) + 1) + 1) + 1) + 1) + 1) + 1) + 1) + 1) + 1) + 1) + 1) + 1) (vp_nar .byte ((a3 >>> (0 &&& 31)).toInt8.toInt32)))) ++ W0) s _ _ := hW
    refine lv_iinc (v := 16) (lv' := [(6, .int 16), (7, .int a3), (0, .ref (ad 0)), (1, .int a0), (2, .int a1), (3, .int a2), (4, .int a3), (5, .int a4)]) hx hb dX4_feed_111 hl (k := 1) rfl (by decide) (by decide) rfl (fun ls hl => ?_)
    refine lv_goto (tgt := 23) hx hb dX4_feed_114 (by decide) ?_
    refine lv_iload hx hb dX4_feed_23 (lv_at hl 0 rfl) ?_
    refine lv_bipush (v := 20) hx hb dX4_feed_25 (by decide) ?_
    refine lv_icmp_ge (tgt := 117) hx hb dX4_feed_27 (by decide) (fun c_27 => absurd c_27 (by decide)) (fun c_27 => ?_)
    refine lv_iload hx hb dX4_feed_30 (lv_at hl 0 rfl) ?_
    refine lv_iconst (v := 4) hx hb dX4_feed_32 (by decide) ?_
    refine lv_icmp_ge (tgt := 40) hx hb dX4_feed_33 (by decide) (fun c_33 => ?_) (fun c_33 => absurd c_33 (by decide))
    refine lv_iload hx hb dX4_feed_40 (lv_at hl 0 rfl) ?_
    refine lv_bipush (v := 8) hx hb dX4_feed_42 (by decide) ?_
    refine lv_icmp_ge (tgt := 51) hx hb dX4_feed_44 (by decide) (fun c_44 => ?_) (fun c_44 => absurd c_44 (by decide))
    refine lv_iload hx hb dX4_feed_51 (lv_at hl 0 rfl) ?_
    refine lv_bipush (v := 12) hx hb dX4_feed_53 (by decide) ?_
    refine lv_icmp_ge (tgt := 62) hx hb dX4_feed_55 (by decide) (fun c_55 => ?_) (fun c_55 => absurd c_55 (by decide))
    refine lv_iload hx hb dX4_feed_62 (lv_at hl 0 rfl) ?_
    refine lv_bipush (v := 16) hx hb dX4_feed_64 (by decide) ?_
    refine lv_icmp_ge (tgt := 74) hx hb dX4_feed_66 (by decide) (fun c_66 => ?_) (fun c_66 => absurd c_66 (by decide))
    refine lv_iload hx hb dX4_feed_74 (lv_at hl 7 rfl) ?_
    refine lv_istore (lv' := [(7, .int a4), (6, .int 16), (0, .ref (ad 0)), (1, .int a0), (2, .int a1), (3, .int a2), (4, .int a3), (5, .int a4)]) hx hb dX4_feed_76 hl (by decide) rfl (fun ls hl => ?_)
    refine lv_aload_n hx hb dX4_feed_78 rfl (lv_at hl 2 rfl) ?_
    refine gM0_tape hF hW q1126 dX4_feed_79 ?_
    refine lv_aload_n hx hb dX4_feed_82 rfl (lv_at hl 2 rfl) ?_
    refine gM0_taped hF hW q1127 (v := nI ((((((((((((((((tp + 1) + 1) + 1) + 1) + 1) + 1) + 1) + 1) + 1) + 1) + 1) + 1) + 1) + 1) + 1) + 1)) (rfl) dX4_feed_83 ?_
    refine lv_iload hx hb dX4_feed_86 (lv_at hl 0 rfl) ?_
    refine lv_bipush (v := 24) hx hb dX4_feed_88 (by decide) ?_
    refine lv_bipush (v := 8) hx hb dX4_feed_90 (by decide) ?_
    refine lv_iload hx hb dX4_feed_92 (lv_at hl 1 rfl) ?_
    refine lv_iconst (v := 4) hx hb dX4_feed_94 (by decide) ?_
    refine lv_irem hx hb dX4_feed_95 (by decide) ?_
    refine lv_eqi (show 16 - 16 / 4 * 4 = 0 from by decide) ?_
    refine lv_imul hx hb dX4_feed_96 ?_
    refine lv_eqi (show 8 * 0 = 0 from by decide) ?_
    refine lv_isub hx hb dX4_feed_97 ?_
    refine lv_eqi (show 24 - 0 = 24 from by decide) ?_
    refine lv_ishr hx hb dX4_feed_98 ?_
    refine lv_i2b hx hb dX4_feed_99 rfl ?_
    refine sM21 hF hW (j := ((((((((((((((((tp + 1) + 1) + 1) + 1) + 1) + 1) + 1) + 1) + 1) + 1) + 1) + 1) + 1) + 1) + 1) + 1)) (rfl) (by omega) dX4_feed_100 (fun H locs hW => ?_)
    have hW : pM G (MWl G ad (xa (xi (xi y 0 0) 11 (nI ((((((((((((((((tp + 1) + 1) + 1) + 1) + 1) + 1) + 1) + 1) + 1) + 1) + 1) + 1) + 1) + 1) + 1) + 1))) 13 (va_up (va_up (va_up (va_up (va_up (va_up (va_up (va_up (va_up (va_up (va_up (va_up (va_up (va_up (va_up (va_up (va_up (y.2.1 13) tp (vp_nar .byte ((a0 >>> (24 &&& 31)).toInt8.toInt32))) (tp + 1) (vp_nar .byte ((a0 >>> (16 &&& 31)).toInt8.toInt32))) ((tp + 1) + 1) (vp_nar .byte ((a0 >>> (8 &&& 31)).toInt8.toInt32))) (((tp + 1) + 1) + 1) (vp_nar .byte ((a0 >>> (0 &&& 31)).toInt8.toInt32))) ((((tp + 1) + 1) + 1) + 1) (vp_nar .byte ((a1 >>> (24 &&& 31)).toInt8.toInt32))) (((((tp + 1) + 1) + 1) + 1) + 1) (vp_nar .byte ((a1 >>> (16 &&& 31)).toInt8.toInt32))) ((((((tp + 1) + 1) + 1) + 1) + 1) + 1) (vp_nar .byte ((a1 >>> (8 &&& 31)).toInt8.toInt32))) (((((((tp + 1) + 1) + 1) + 1) + 1) + 1) + 1) (vp_nar .byte ((a1 >>> (0 &&& 31)).toInt8.toInt32))) ((((((((tp + 1) + 1) + 1) + 1) + 1) + 1) + 1) + 1) (vp_nar .byte ((a2 >>> (24 &&& 31)).toInt8.toInt32))) (((((((((tp + 1) + 1) + 1) + 1) + 1) + 1) + 1) + 1) + 1) (vp_nar .byte ((a2 >>> (16 &&& 31)).toInt8.toInt32))) ((((((((((tp + 1) + 1) + 1) + 1) + 1) + 1) + 1) + 1) + 1) + 1) (vp_nar .byte ((a2 >>> (8 &&& 31)).toInt8.toInt32))) (((((((((((tp + 1) + 1) + 1) + 1) + 1) + 1) + 1) + 1) + 1) + 1) + 1) (vp_nar .byte ((a2 >>> (0 &&& 31)).toInt8.toInt32))) ((((((((((((tp + 1) + 1) + 1) + 1) + 1) + 1) + 1) + 1) + 1) + 1) + 1) + 1) (vp_nar .byte ((a3 >>> (24 &&& 31)).toInt8.toInt32))) (((((((((((((tp + 1) + 1) + 1) + 1) + 1) + 1) + 1) + 1) + 1) + 1) + 1) + 1) + 1) (vp_nar .byte ((a3 >>> (16 &&& 31)).toInt8.toInt32))) ((((((((((((((tp + 1) + 1) + 1) + 1) + 1) + 1) + 1) + 1) + 1) + 1) + 1) + 1) + 1) + 1) (vp_nar .byte ((a3 >>> (8 &&& 31)).toInt8.toInt32))) (((((((((((((((tp + 1) + 1) + 1) + 1) + 1) + 1) + 1) + 1) + 1) + 1) + 1) + 1) + 1) + 1) + 1) (vp_nar .byte ((a3 >>> (0 &&& 31)).toInt8.toInt32))) ((((((((((((((((tp + 1) + 1) + 1) + 1) + 1) + 1) + 1) + 1) + 1) + 1) + 1) + 1) + 1) + 1) + 1) + 1) (vp_nar .byte ((a4 >>> (24 &&& 31)).toInt8.toInt32)))) ++ W0) s _ _ := hW
    refine lv_aload_n hx hb dX4_feed_101 rfl (lv_at hl 2 rfl) ?_
    refine lv_dup hx hb dX4_feed_102 rfl ?_
    refine gM0_taped hF hW q1127 (v := nI ((((((((((((((((tp + 1) + 1) + 1) + 1) + 1) + 1) + 1) + 1) + 1) + 1) + 1) + 1) + 1) + 1) + 1) + 1)) (rfl) dX4_feed_103 ?_
    refine lv_iconst (v := 1) hx hb dX4_feed_106 (by decide) ?_
    refine lv_iadd hx hb dX4_feed_107 ?_
    refine lv_eqi (show (nI ((((((((((((((((tp + 1) + 1) + 1) + 1) + 1) + 1) + 1) + 1) + 1) + 1) + 1) + 1) + 1) + 1) + 1) + 1)) + 1 = nI (((((((((((((((((tp + 1) + 1) + 1) + 1) + 1) + 1) + 1) + 1) + 1) + 1) + 1) + 1) + 1) + 1) + 1) + 1) + 1) from nI_add ((((((((((((((((tp + 1) + 1) + 1) + 1) + 1) + 1) + 1) + 1) + 1) + 1) + 1) + 1) + 1) + 1) + 1) + 1) 1) ?_
    refine pM0_taped hF hW q1127 dX4_feed_108 (fun H locs hW => ?_)
    have hW : pM G (MWl G ad (xa (xi (xi y 0 0) 11 (nI (((((((((((((((((tp + 1) + 1) + 1) + 1) + 1) + 1) + 1) + 1) + 1) + 1) + 1) + 1) + 1) + 1) + 1) + 1) + 1))) 13 (va_up (va_up (va_up (va_up (va_up (va_up (va_up (va_up (va_up (va_up (va_up (va_up (va_up (va_up (va_up (va_up (va_up (y.2.1 13) tp (vp_nar .byte ((a0 >>> (24 &&& 31)).toInt8.toInt32))) (tp + 1) (vp_nar .byte ((a0 >>> (16 &&& 31)).toInt8.toInt32))) ((tp + 1) + 1) (vp_nar .byte ((a0 >>> (8 &&& 31)).toInt8.toInt32))) (((tp + 1) + 1) + 1) (vp_nar .byte ((a0 >>> (0 &&& 31)).toInt8.toInt32))) ((((tp + 1) + 1) + 1) + 1) (vp_nar .byte ((a1 >>> (24 &&& 31)).toInt8.toInt32))) (((((tp + 1) + 1) + 1) + 1) + 1) (vp_nar .byte ((a1 >>> (16 &&& 31)).toInt8.toInt32))) ((((((tp + 1) + 1) + 1) + 1) + 1) + 1) (vp_nar .byte ((a1 >>> (8 &&& 31)).toInt8.toInt32))) (((((((tp + 1) + 1) + 1) + 1) + 1) + 1) + 1) (vp_nar .byte ((a1 >>> (0 &&& 31)).toInt8.toInt32))) ((((((((tp + 1) + 1) + 1) + 1) + 1) + 1) + 1) + 1) (vp_nar .byte ((a2 >>> (24 &&& 31)).toInt8.toInt32))) (((((((((tp + 1) + 1) + 1) + 1) + 1) + 1) + 1) + 1) + 1) (vp_nar .byte ((a2 >>> (16 &&& 31)).toInt8.toInt32))) ((((((((((tp + 1) + 1) + 1) + 1) + 1) + 1) + 1) + 1) + 1) + 1) (vp_nar .byte ((a2 >>> (8 &&& 31)).toInt8.toInt32))) (((((((((((tp + 1) + 1) + 1) + 1) + 1) + 1) + 1) + 1) + 1) + 1) + 1) (vp_nar .byte ((a2 >>> (0 &&& 31)).toInt8.toInt32))) ((((((((((((tp + 1) + 1) + 1) + 1) + 1) + 1) + 1) + 1) + 1) + 1) + 1) + 1) (vp_nar .byte ((a3 >>> (24 &&& 31)).toInt8.toInt32))) (((((((((((((tp + 1) + 1) + 1) + 1) + 1) + 1) + 1) + 1) + 1) + 1) + 1) + 1) + 1) (vp_nar .byte ((a3 >>> (16 &&& 31)).toInt8.toInt32))) ((((((((((((((tp + 1) + 1) + 1) + 1) + 1) + 1) + 1) + 1) + 1) + 1) + 1) + 1) + 1) + 1) (vp_nar .byte ((a3 >>> (8 &&& 31)).toInt8.toInt32))) (((((((((((((((tp + 1) + 1) + 1) + 1) + 1) + 1) + 1) + 1) + 1) + 1) + 1) + 1) + 1) + 1) + 1) (vp_nar .byte ((a3 >>> (0 &&& 31)).toInt8.toInt32))) ((((((((((((((((tp + 1) + 1) + 1) + 1) + 1) + 1) + 1) + 1) + 1) + 1) + 1) + 1) + 1) + 1) + 1) + 1) (vp_nar .byte ((a4 >>> (24 &&& 31)).toInt8.toInt32)))) ++ W0) s _ _ := hW
    refine lv_iinc (v := 17) (lv' := [(6, .int 17), (7, .int a4), (0, .ref (ad 0)), (1, .int a0), (2, .int a1), (3, .int a2), (4, .int a3), (5, .int a4)]) hx hb dX4_feed_111 hl (k := 1) rfl (by decide) (by decide) rfl (fun ls hl => ?_)
    refine lv_goto (tgt := 23) hx hb dX4_feed_114 (by decide) ?_
    refine lv_iload hx hb dX4_feed_23 (lv_at hl 0 rfl) ?_
    refine lv_bipush (v := 20) hx hb dX4_feed_25 (by decide) ?_
    refine lv_icmp_ge (tgt := 117) hx hb dX4_feed_27 (by decide) (fun c_27 => absurd c_27 (by decide)) (fun c_27 => ?_)
    refine lv_iload hx hb dX4_feed_30 (lv_at hl 0 rfl) ?_
    refine lv_iconst (v := 4) hx hb dX4_feed_32 (by decide) ?_
    refine lv_icmp_ge (tgt := 40) hx hb dX4_feed_33 (by decide) (fun c_33 => ?_) (fun c_33 => absurd c_33 (by decide))
    refine lv_iload hx hb dX4_feed_40 (lv_at hl 0 rfl) ?_
    refine lv_bipush (v := 8) hx hb dX4_feed_42 (by decide) ?_
    refine lv_icmp_ge (tgt := 51) hx hb dX4_feed_44 (by decide) (fun c_44 => ?_) (fun c_44 => absurd c_44 (by decide))
    refine lv_iload hx hb dX4_feed_51 (lv_at hl 0 rfl) ?_
    refine lv_bipush (v := 12) hx hb dX4_feed_53 (by decide) ?_
    refine lv_icmp_ge (tgt := 62) hx hb dX4_feed_55 (by decide) (fun c_55 => ?_) (fun c_55 => absurd c_55 (by decide))
    refine lv_iload hx hb dX4_feed_62 (lv_at hl 0 rfl) ?_
    refine lv_bipush (v := 16) hx hb dX4_feed_64 (by decide) ?_
    refine lv_icmp_ge (tgt := 74) hx hb dX4_feed_66 (by decide) (fun c_66 => ?_) (fun c_66 => absurd c_66 (by decide))
    refine lv_iload hx hb dX4_feed_74 (lv_at hl 7 rfl) ?_
    refine lv_istore (lv' := [(7, .int a4), (6, .int 17), (0, .ref (ad 0)), (1, .int a0), (2, .int a1), (3, .int a2), (4, .int a3), (5, .int a4)]) hx hb dX4_feed_76 hl (by decide) rfl (fun ls hl => ?_)
    refine lv_aload_n hx hb dX4_feed_78 rfl (lv_at hl 2 rfl) ?_
    refine gM0_tape hF hW q1126 dX4_feed_79 ?_
    refine lv_aload_n hx hb dX4_feed_82 rfl (lv_at hl 2 rfl) ?_
    refine gM0_taped hF hW q1127 (v := nI (((((((((((((((((tp + 1) + 1) + 1) + 1) + 1) + 1) + 1) + 1) + 1) + 1) + 1) + 1) + 1) + 1) + 1) + 1) + 1)) (rfl) dX4_feed_83 ?_
    refine lv_iload hx hb dX4_feed_86 (lv_at hl 0 rfl) ?_
    refine lv_bipush (v := 24) hx hb dX4_feed_88 (by decide) ?_
    refine lv_bipush (v := 8) hx hb dX4_feed_90 (by decide) ?_
    refine lv_iload hx hb dX4_feed_92 (lv_at hl 1 rfl) ?_
    refine lv_iconst (v := 4) hx hb dX4_feed_94 (by decide) ?_
    refine lv_irem hx hb dX4_feed_95 (by decide) ?_
    refine lv_eqi (show 17 - 17 / 4 * 4 = 1 from by decide) ?_
    refine lv_imul hx hb dX4_feed_96 ?_
    refine lv_eqi (show 8 * 1 = 8 from by decide) ?_
    refine lv_isub hx hb dX4_feed_97 ?_
    refine lv_eqi (show 24 - 8 = 16 from by decide) ?_
    refine lv_ishr hx hb dX4_feed_98 ?_
    refine lv_i2b hx hb dX4_feed_99 rfl ?_
    refine sM21 hF hW (j := (((((((((((((((((tp + 1) + 1) + 1) + 1) + 1) + 1) + 1) + 1) + 1) + 1) + 1) + 1) + 1) + 1) + 1) + 1) + 1)) (rfl) (by omega) dX4_feed_100 (fun H locs hW => ?_)
    have hW : pM G (MWl G ad (xa (xi (xi y 0 0) 11 (nI (((((((((((((((((tp + 1) + 1) + 1) + 1) + 1) + 1) + 1) + 1) + 1) + 1) + 1) + 1) + 1) + 1) + 1) + 1) + 1))) 13 (va_up (va_up (va_up (va_up (va_up (va_up (va_up (va_up (va_up (va_up (va_up (va_up (va_up (va_up (va_up (va_up (va_up (va_up (y.2.1 13) tp (vp_nar .byte ((a0 >>> (24 &&& 31)).toInt8.toInt32))) (tp + 1) (vp_nar .byte ((a0 >>> (16 &&& 31)).toInt8.toInt32))) ((tp + 1) + 1) (vp_nar .byte ((a0 >>> (8 &&& 31)).toInt8.toInt32))) (((tp + 1) + 1) + 1) (vp_nar .byte ((a0 >>> (0 &&& 31)).toInt8.toInt32))) ((((tp + 1) + 1) + 1) + 1) (vp_nar .byte ((a1 >>> (24 &&& 31)).toInt8.toInt32))) (((((tp + 1) + 1) + 1) + 1) + 1) (vp_nar .byte ((a1 >>> (16 &&& 31)).toInt8.toInt32))) ((((((tp + 1) + 1) + 1) + 1) + 1) + 1) (vp_nar .byte ((a1 >>> (8 &&& 31)).toInt8.toInt32))) (((((((tp + 1) + 1) + 1) + 1) + 1) + 1) + 1) (vp_nar .byte ((a1 >>> (0 &&& 31)).toInt8.toInt32))) ((((((((tp + 1) + 1) + 1) + 1) + 1) + 1) + 1) + 1) (vp_nar .byte ((a2 >>> (24 &&& 31)).toInt8.toInt32))) (((((((((tp + 1) + 1) + 1) + 1) + 1) + 1) + 1) + 1) + 1) (vp_nar .byte ((a2 >>> (16 &&& 31)).toInt8.toInt32))) ((((((((((tp + 1) + 1) + 1) + 1) + 1) + 1) + 1) + 1) + 1) + 1) (vp_nar .byte ((a2 >>> (8 &&& 31)).toInt8.toInt32))) (((((((((((tp + 1) + 1) + 1) + 1) + 1) + 1) + 1) + 1) + 1) + 1) + 1) (vp_nar .byte ((a2 >>> (0 &&& 31)).toInt8.toInt32))) ((((((((((((tp + 1) + 1) + 1) + 1) + 1) + 1) + 1) + 1) + 1) + 1) + 1) + 1) (vp_nar .byte ((a3 >>> (24 &&& 31)).toInt8.toInt32))) (((((((((((((tp + 1) + 1) + 1) + 1) + 1) + 1) + 1) + 1) + 1) + 1) + 1) + 1) + 1) (vp_nar .byte ((a3 >>> (16 &&& 31)).toInt8.toInt32))) ((((((((((((((tp + 1) + 1) + 1) + 1) + 1) + 1) + 1) + 1) + 1) + 1) + 1) + 1) + 1) + 1) (vp_nar .byte ((a3 >>> (8 &&& 31)).toInt8.toInt32))) (((((((((((((((tp + 1) + 1) + 1) + 1) + 1) + 1) + 1) + 1) + 1) + 1) + 1) + 1) + 1) + 1) + 1) (vp_nar .byte ((a3 >>> (0 &&& 31)).toInt8.toInt32))) ((((((((((((((((tp + 1) + 1) + 1) + 1) + 1) + 1) + 1) + 1) + 1) + 1) + 1) + 1) + 1) + 1) + 1) + 1) (vp_nar .byte ((a4 >>> (24 &&& 31)).toInt8.toInt32))) (((((((((((((((((tp + 1) + 1) + 1) + 1) + 1) + 1) + 1) + 1) + 1) + 1) + 1) + 1) + 1) + 1) + 1) + 1) + 1) (vp_nar .byte ((a4 >>> (16 &&& 31)).toInt8.toInt32)))) ++ W0) s _ _ := hW
    refine lv_aload_n hx hb dX4_feed_101 rfl (lv_at hl 2 rfl) ?_
    refine lv_dup hx hb dX4_feed_102 rfl ?_
    refine gM0_taped hF hW q1127 (v := nI (((((((((((((((((tp + 1) + 1) + 1) + 1) + 1) + 1) + 1) + 1) + 1) + 1) + 1) + 1) + 1) + 1) + 1) + 1) + 1)) (rfl) dX4_feed_103 ?_
    refine lv_iconst (v := 1) hx hb dX4_feed_106 (by decide) ?_
    refine lv_iadd hx hb dX4_feed_107 ?_
    refine lv_eqi (show (nI (((((((((((((((((tp + 1) + 1) + 1) + 1) + 1) + 1) + 1) + 1) + 1) + 1) + 1) + 1) + 1) + 1) + 1) + 1) + 1)) + 1 = nI ((((((((((((((((((tp + 1) + 1) + 1) + 1) + 1) + 1) + 1) + 1) + 1) + 1) + 1) + 1) + 1) + 1) + 1) + 1) + 1) + 1) from nI_add (((((((((((((((((tp + 1) + 1) + 1) + 1) + 1) + 1) + 1) + 1) + 1) + 1) + 1) + 1) + 1) + 1) + 1) + 1) + 1) 1) ?_
    refine pM0_taped hF hW q1127 dX4_feed_108 (fun H locs hW => ?_)
    have hW : pM G (MWl G ad (xa (xi (xi y 0 0) 11 (nI ((((((((((((((((((tp + 1) + 1) + 1) + 1) + 1) + 1) + 1) + 1) + 1) + 1) + 1) + 1) + 1) + 1) + 1) + 1) + 1) + 1))) 13 (va_up (va_up (va_up (va_up (va_up (va_up (va_up (va_up (va_up (va_up (va_up (va_up (va_up (va_up (va_up (va_up (va_up (va_up (y.2.1 13) tp (vp_nar .byte ((a0 >>> (24 &&& 31)).toInt8.toInt32))) (tp + 1) (vp_nar .byte ((a0 >>> (16 &&& 31)).toInt8.toInt32))) ((tp + 1) + 1) (vp_nar .byte ((a0 >>> (8 &&& 31)).toInt8.toInt32))) (((tp + 1) + 1) + 1) (vp_nar .byte ((a0 >>> (0 &&& 31)).toInt8.toInt32))) ((((tp + 1) + 1) + 1) + 1) (vp_nar .byte ((a1 >>> (24 &&& 31)).toInt8.toInt32))) (((((tp + 1) + 1) + 1) + 1) + 1) (vp_nar .byte ((a1 >>> (16 &&& 31)).toInt8.toInt32))) ((((((tp + 1) + 1) + 1) + 1) + 1) + 1) (vp_nar .byte ((a1 >>> (8 &&& 31)).toInt8.toInt32))) (((((((tp + 1) + 1) + 1) + 1) + 1) + 1) + 1) (vp_nar .byte ((a1 >>> (0 &&& 31)).toInt8.toInt32))) ((((((((tp + 1) + 1) + 1) + 1) + 1) + 1) + 1) + 1) (vp_nar .byte ((a2 >>> (24 &&& 31)).toInt8.toInt32))) (((((((((tp + 1) + 1) + 1) + 1) + 1) + 1) + 1) + 1) + 1) (vp_nar .byte ((a2 >>> (16 &&& 31)).toInt8.toInt32))) ((((((((((tp + 1) + 1) + 1) + 1) + 1) + 1) + 1) + 1) + 1) + 1) (vp_nar .byte ((a2 >>> (8 &&& 31)).toInt8.toInt32))) (((((((((((tp + 1) + 1) + 1) + 1) + 1) + 1) + 1) + 1) + 1) + 1) + 1) (vp_nar .byte ((a2 >>> (0 &&& 31)).toInt8.toInt32))) ((((((((((((tp + 1) + 1) + 1) + 1) + 1) + 1) + 1) + 1) + 1) + 1) + 1) + 1) (vp_nar .byte ((a3 >>> (24 &&& 31)).toInt8.toInt32))) (((((((((((((tp + 1) + 1) + 1) + 1) + 1) + 1) + 1) + 1) + 1) + 1) + 1) + 1) + 1) (vp_nar .byte ((a3 >>> (16 &&& 31)).toInt8.toInt32))) ((((((((((((((tp + 1) + 1) + 1) + 1) + 1) + 1) + 1) + 1) + 1) + 1) + 1) + 1) + 1) + 1) (vp_nar .byte ((a3 >>> (8 &&& 31)).toInt8.toInt32))) (((((((((((((((tp + 1) + 1) + 1) + 1) + 1) + 1) + 1) + 1) + 1) + 1) + 1) + 1) + 1) + 1) + 1) (vp_nar .byte ((a3 >>> (0 &&& 31)).toInt8.toInt32))) ((((((((((((((((tp + 1) + 1) + 1) + 1) + 1) + 1) + 1) + 1) + 1) + 1) + 1) + 1) + 1) + 1) + 1) + 1) (vp_nar .byte ((a4 >>> (24 &&& 31)).toInt8.toInt32))) (((((((((((((((((tp + 1) + 1) + 1) + 1) + 1) + 1) + 1) + 1) + 1) + 1) + 1) + 1) + 1) + 1) + 1) + 1) + 1) (vp_nar .byte ((a4 >>> (16 &&& 31)).toInt8.toInt32)))) ++ W0) s _ _ := hW
    refine lv_iinc (v := 18) (lv' := [(6, .int 18), (7, .int a4), (0, .ref (ad 0)), (1, .int a0), (2, .int a1), (3, .int a2), (4, .int a3), (5, .int a4)]) hx hb dX4_feed_111 hl (k := 1) rfl (by decide) (by decide) rfl (fun ls hl => ?_)
    refine lv_goto (tgt := 23) hx hb dX4_feed_114 (by decide) ?_
    refine lv_iload hx hb dX4_feed_23 (lv_at hl 0 rfl) ?_
    refine lv_bipush (v := 20) hx hb dX4_feed_25 (by decide) ?_
    refine lv_icmp_ge (tgt := 117) hx hb dX4_feed_27 (by decide) (fun c_27 => absurd c_27 (by decide)) (fun c_27 => ?_)
    refine lv_iload hx hb dX4_feed_30 (lv_at hl 0 rfl) ?_
    refine lv_iconst (v := 4) hx hb dX4_feed_32 (by decide) ?_
    refine lv_icmp_ge (tgt := 40) hx hb dX4_feed_33 (by decide) (fun c_33 => ?_) (fun c_33 => absurd c_33 (by decide))
    refine lv_iload hx hb dX4_feed_40 (lv_at hl 0 rfl) ?_
    refine lv_bipush (v := 8) hx hb dX4_feed_42 (by decide) ?_
    refine lv_icmp_ge (tgt := 51) hx hb dX4_feed_44 (by decide) (fun c_44 => ?_) (fun c_44 => absurd c_44 (by decide))
    refine lv_iload hx hb dX4_feed_51 (lv_at hl 0 rfl) ?_
    refine lv_bipush (v := 12) hx hb dX4_feed_53 (by decide) ?_
    refine lv_icmp_ge (tgt := 62) hx hb dX4_feed_55 (by decide) (fun c_55 => ?_) (fun c_55 => absurd c_55 (by decide))
    refine lv_iload hx hb dX4_feed_62 (lv_at hl 0 rfl) ?_
    refine lv_bipush (v := 16) hx hb dX4_feed_64 (by decide) ?_
    refine lv_icmp_ge (tgt := 74) hx hb dX4_feed_66 (by decide) (fun c_66 => ?_) (fun c_66 => absurd c_66 (by decide))
    refine lv_iload hx hb dX4_feed_74 (lv_at hl 7 rfl) ?_
    refine lv_istore (lv' := [(7, .int a4), (6, .int 18), (0, .ref (ad 0)), (1, .int a0), (2, .int a1), (3, .int a2), (4, .int a3), (5, .int a4)]) hx hb dX4_feed_76 hl (by decide) rfl (fun ls hl => ?_)
    refine lv_aload_n hx hb dX4_feed_78 rfl (lv_at hl 2 rfl) ?_
    refine gM0_tape hF hW q1126 dX4_feed_79 ?_
    refine lv_aload_n hx hb dX4_feed_82 rfl (lv_at hl 2 rfl) ?_
    refine gM0_taped hF hW q1127 (v := nI ((((((((((((((((((tp + 1) + 1) + 1) + 1) + 1) + 1) + 1) + 1) + 1) + 1) + 1) + 1) + 1) + 1) + 1) + 1) + 1) + 1)) (rfl) dX4_feed_83 ?_
    refine lv_iload hx hb dX4_feed_86 (lv_at hl 0 rfl) ?_
    refine lv_bipush (v := 24) hx hb dX4_feed_88 (by decide) ?_
    refine lv_bipush (v := 8) hx hb dX4_feed_90 (by decide) ?_
    refine lv_iload hx hb dX4_feed_92 (lv_at hl 1 rfl) ?_
    refine lv_iconst (v := 4) hx hb dX4_feed_94 (by decide) ?_
    refine lv_irem hx hb dX4_feed_95 (by decide) ?_
    refine lv_eqi (show 18 - 18 / 4 * 4 = 2 from by decide) ?_
    refine lv_imul hx hb dX4_feed_96 ?_
    refine lv_eqi (show 8 * 2 = 16 from by decide) ?_
    refine lv_isub hx hb dX4_feed_97 ?_
    refine lv_eqi (show 24 - 16 = 8 from by decide) ?_
    refine lv_ishr hx hb dX4_feed_98 ?_
    refine lv_i2b hx hb dX4_feed_99 rfl ?_
    refine sM21 hF hW (j := ((((((((((((((((((tp + 1) + 1) + 1) + 1) + 1) + 1) + 1) + 1) + 1) + 1) + 1) + 1) + 1) + 1) + 1) + 1) + 1) + 1)) (rfl) (by omega) dX4_feed_100 (fun H locs hW => ?_)
    have hW : pM G (MWl G ad (xa (xi (xi y 0 0) 11 (nI ((((((((((((((((((tp + 1) + 1) + 1) + 1) + 1) + 1) + 1) + 1) + 1) + 1) + 1) + 1) + 1) + 1) + 1) + 1) + 1) + 1))) 13 (va_up (va_up (va_up (va_up (va_up (va_up (va_up (va_up (va_up (va_up (va_up (va_up (va_up (va_up (va_up (va_up (va_up (va_up (va_up (y.2.1 13) tp (vp_nar .byte ((a0 >>> (24 &&& 31)).toInt8.toInt32))) (tp + 1) (vp_nar .byte ((a0 >>> (16 &&& 31)).toInt8.toInt32))) ((tp + 1) + 1) (vp_nar .byte ((a0 >>> (8 &&& 31)).toInt8.toInt32))) (((tp + 1) + 1) + 1) (vp_nar .byte ((a0 >>> (0 &&& 31)).toInt8.toInt32))) ((((tp + 1) + 1) + 1) + 1) (vp_nar .byte ((a1 >>> (24 &&& 31)).toInt8.toInt32))) (((((tp + 1) + 1) + 1) + 1) + 1) (vp_nar .byte ((a1 >>> (16 &&& 31)).toInt8.toInt32))) ((((((tp + 1) + 1) + 1) + 1) + 1) + 1) (vp_nar .byte ((a1 >>> (8 &&& 31)).toInt8.toInt32))) (((((((tp + 1) + 1) + 1) + 1) + 1) + 1) + 1) (vp_nar .byte ((a1 >>> (0 &&& 31)).toInt8.toInt32))) ((((((((tp + 1) + 1) + 1) + 1) + 1) + 1) + 1) + 1) (vp_nar .byte ((a2 >>> (24 &&& 31)).toInt8.toInt32))) (((((((((tp + 1) + 1) + 1) + 1) + 1) + 1) + 1) + 1) + 1) (vp_nar .byte ((a2 >>> (16 &&& 31)).toInt8.toInt32))) ((((((((((tp + 1) + 1) + 1) + 1) + 1) + 1) + 1) + 1) + 1) + 1) (vp_nar .byte ((a2 >>> (8 &&& 31)).toInt8.toInt32))) (((((((((((tp + 1) + 1) + 1) + 1) + 1) + 1) + 1) + 1) + 1) + 1) + 1) (vp_nar .byte ((a2 >>> (0 &&& 31)).toInt8.toInt32))) ((((((((((((tp + 1) + 1) + 1) + 1) + 1) + 1) + 1) + 1) + 1) + 1) + 1) + 1) (vp_nar .byte ((a3 >>> (24 &&& 31)).toInt8.toInt32))) (((((((((((((tp + 1) + 1) + 1) + 1) + 1) + 1) + 1) + 1) + 1) + 1) + 1) + 1) + 1) (vp_nar .byte ((a3 >>> (16 &&& 31)).toInt8.toInt32))) ((((((((((((((tp + 1) + 1) + 1) + 1) + 1) + 1) + 1) + 1) + 1) + 1) + 1) + 1) + 1) + 1) (vp_nar .byte ((a3 >>> (8 &&& 31)).toInt8.toInt32))) (((((((((((((((tp + 1) + 1) + 1) + 1) + 1) + 1) + 1) + 1) + 1) + 1) + 1) + 1) + 1) + 1) + 1) (vp_nar .byte ((a3 >>> (0 &&& 31)).toInt8.toInt32))) ((((((((((((((((tp + 1) + 1) + 1) + 1) + 1) + 1) + 1) + 1) + 1) + 1) + 1) + 1) + 1) + 1) + 1) + 1) (vp_nar .byte ((a4 >>> (24 &&& 31)).toInt8.toInt32))) (((((((((((((((((tp + 1) + 1) + 1) + 1) + 1) + 1) + 1) + 1) + 1) + 1) + 1) + 1) + 1) + 1) + 1) + 1) + 1) (vp_nar .byte ((a4 >>> (16 &&& 31)).toInt8.toInt32))) ((((((((((((((((((tp + 1) + 1) + 1) + 1) + 1) + 1) + 1) + 1) + 1) + 1) + 1) + 1) + 1) + 1) + 1) + 1) + 1) + 1) (vp_nar .byte ((a4 >>> (8 &&& 31)).toInt8.toInt32)))) ++ W0) s _ _ := hW
    refine lv_aload_n hx hb dX4_feed_101 rfl (lv_at hl 2 rfl) ?_
    refine lv_dup hx hb dX4_feed_102 rfl ?_
    refine gM0_taped hF hW q1127 (v := nI ((((((((((((((((((tp + 1) + 1) + 1) + 1) + 1) + 1) + 1) + 1) + 1) + 1) + 1) + 1) + 1) + 1) + 1) + 1) + 1) + 1)) (rfl) dX4_feed_103 ?_
    refine lv_iconst (v := 1) hx hb dX4_feed_106 (by decide) ?_
    refine lv_iadd hx hb dX4_feed_107 ?_
    refine lv_eqi (show (nI ((((((((((((((((((tp + 1) + 1) + 1) + 1) + 1) + 1) + 1) + 1) + 1) + 1) + 1) + 1) + 1) + 1) + 1) + 1) + 1) + 1)) + 1 = nI (((((((((((((((((((tp + 1) + 1) + 1) + 1) + 1) + 1) + 1) + 1) + 1) + 1) + 1) + 1) + 1) + 1) + 1) + 1) + 1) + 1) + 1) from nI_add ((((((((((((((((((tp + 1) + 1) + 1) + 1) + 1) + 1) + 1) + 1) + 1) + 1) + 1) + 1) + 1) + 1) + 1) + 1) + 1) + 1) 1) ?_
    refine pM0_taped hF hW q1127 dX4_feed_108 (fun H locs hW => ?_)
    have hW : pM G (MWl G ad (xa (xi (xi y 0 0) 11 (nI (((((((((((((((((((tp + 1) + 1) + 1) + 1) + 1) + 1) + 1) + 1) + 1) + 1) + 1) + 1) + 1) + 1) + 1) + 1) + 1) + 1) + 1))) 13 (va_up (va_up (va_up (va_up (va_up (va_up (va_up (va_up (va_up (va_up (va_up (va_up (va_up (va_up (va_up (va_up (va_up (va_up (va_up (y.2.1 13) tp (vp_nar .byte ((a0 >>> (24 &&& 31)).toInt8.toInt32))) (tp + 1) (vp_nar .byte ((a0 >>> (16 &&& 31)).toInt8.toInt32))) ((tp + 1) + 1) (vp_nar .byte ((a0 >>> (8 &&& 31)).toInt8.toInt32))) (((tp + 1) + 1) + 1) (vp_nar .byte ((a0 >>> (0 &&& 31)).toInt8.toInt32))) ((((tp + 1) + 1) + 1) + 1) (vp_nar .byte ((a1 >>> (24 &&& 31)).toInt8.toInt32))) (((((tp + 1) + 1) + 1) + 1) + 1) (vp_nar .byte ((a1 >>> (16 &&& 31)).toInt8.toInt32))) ((((((tp + 1) + 1) + 1) + 1) + 1) + 1) (vp_nar .byte ((a1 >>> (8 &&& 31)).toInt8.toInt32))) (((((((tp + 1) + 1) + 1) + 1) + 1) + 1) + 1) (vp_nar .byte ((a1 >>> (0 &&& 31)).toInt8.toInt32))) ((((((((tp + 1) + 1) + 1) + 1) + 1) + 1) + 1) + 1) (vp_nar .byte ((a2 >>> (24 &&& 31)).toInt8.toInt32))) (((((((((tp + 1) + 1) + 1) + 1) + 1) + 1) + 1) + 1) + 1) (vp_nar .byte ((a2 >>> (16 &&& 31)).toInt8.toInt32))) ((((((((((tp + 1) + 1) + 1) + 1) + 1) + 1) + 1) + 1) + 1) + 1) (vp_nar .byte ((a2 >>> (8 &&& 31)).toInt8.toInt32))) (((((((((((tp + 1) + 1) + 1) + 1) + 1) + 1) + 1) + 1) + 1) + 1) + 1) (vp_nar .byte ((a2 >>> (0 &&& 31)).toInt8.toInt32))) ((((((((((((tp + 1) + 1) + 1) + 1) + 1) + 1) + 1) + 1) + 1) + 1) + 1) + 1) (vp_nar .byte ((a3 >>> (24 &&& 31)).toInt8.toInt32))) (((((((((((((tp + 1) + 1) + 1) + 1) + 1) + 1) + 1) + 1) + 1) + 1) + 1) + 1) + 1) (vp_nar .byte ((a3 >>> (16 &&& 31)).toInt8.toInt32))) ((((((((((((((tp + 1) + 1) + 1) + 1) + 1) + 1) + 1) + 1) + 1) + 1) + 1) + 1) + 1) + 1) (vp_nar .byte ((a3 >>> (8 &&& 31)).toInt8.toInt32))) (((((((((((((((tp + 1) + 1) + 1) + 1) + 1) + 1) + 1) + 1) + 1) + 1) + 1) + 1) + 1) + 1) + 1) (vp_nar .byte ((a3 >>> (0 &&& 31)).toInt8.toInt32))) ((((((((((((((((tp + 1) + 1) + 1) + 1) + 1) + 1) + 1) + 1) + 1) + 1) + 1) + 1) + 1) + 1) + 1) + 1) (vp_nar .byte ((a4 >>> (24 &&& 31)).toInt8.toInt32))) (((((((((((((((((tp + 1) + 1) + 1) + 1) + 1) + 1) + 1) + 1) + 1) + 1) + 1) + 1) + 1) + 1) + 1) + 1) + 1) (vp_nar .byte ((a4 >>> (16 &&& 31)).toInt8.toInt32))) ((((((((((((((((((tp + 1) + 1) + 1) + 1) + 1) + 1) + 1) + 1) + 1) + 1) + 1) + 1) + 1) + 1) + 1) + 1) + 1) + 1) (vp_nar .byte ((a4 >>> (8 &&& 31)).toInt8.toInt32)))) ++ W0) s _ _ := hW
    refine lv_iinc (v := 19) (lv' := [(6, .int 19), (7, .int a4), (0, .ref (ad 0)), (1, .int a0), (2, .int a1), (3, .int a2), (4, .int a3), (5, .int a4)]) hx hb dX4_feed_111 hl (k := 1) rfl (by decide) (by decide) rfl (fun ls hl => ?_)
    refine lv_goto (tgt := 23) hx hb dX4_feed_114 (by decide) ?_
    refine lv_iload hx hb dX4_feed_23 (lv_at hl 0 rfl) ?_
    refine lv_bipush (v := 20) hx hb dX4_feed_25 (by decide) ?_
    refine lv_icmp_ge (tgt := 117) hx hb dX4_feed_27 (by decide) (fun c_27 => absurd c_27 (by decide)) (fun c_27 => ?_)
    refine lv_iload hx hb dX4_feed_30 (lv_at hl 0 rfl) ?_
    refine lv_iconst (v := 4) hx hb dX4_feed_32 (by decide) ?_
    refine lv_icmp_ge (tgt := 40) hx hb dX4_feed_33 (by decide) (fun c_33 => ?_) (fun c_33 => absurd c_33 (by decide))
    refine lv_iload hx hb dX4_feed_40 (lv_at hl 0 rfl) ?_
    refine lv_bipush (v := 8) hx hb dX4_feed_42 (by decide) ?_
    refine lv_icmp_ge (tgt := 51) hx hb dX4_feed_44 (by decide) (fun c_44 => ?_) (fun c_44 => absurd c_44 (by decide))
    refine lv_iload hx hb dX4_feed_51 (lv_at hl 0 rfl) ?_
    refine lv_bipush (v := 12) hx hb dX4_feed_53 (by decide) ?_
    refine lv_icmp_ge (tgt := 62) hx hb dX4_feed_55 (by decide) (fun c_55 => ?_) (fun c_55 => absurd c_55 (by decide))
    refine lv_iload hx hb dX4_feed_62 (lv_at hl 0 rfl) ?_
    refine lv_bipush (v := 16) hx hb dX4_feed_64 (by decide) ?_
    refine lv_icmp_ge (tgt := 74) hx hb dX4_feed_66 (by decide) (fun c_66 => ?_) (fun c_66 => absurd c_66 (by decide))
    refine lv_iload hx hb dX4_feed_74 (lv_at hl 7 rfl) ?_
    refine lv_istore (lv' := [(7, .int a4), (6, .int 19), (0, .ref (ad 0)), (1, .int a0), (2, .int a1), (3, .int a2), (4, .int a3), (5, .int a4)]) hx hb dX4_feed_76 hl (by decide) rfl (fun ls hl => ?_)
    refine lv_aload_n hx hb dX4_feed_78 rfl (lv_at hl 2 rfl) ?_
    refine gM0_tape hF hW q1126 dX4_feed_79 ?_
    refine lv_aload_n hx hb dX4_feed_82 rfl (lv_at hl 2 rfl) ?_
    refine gM0_taped hF hW q1127 (v := nI (((((((((((((((((((tp + 1) + 1) + 1) + 1) + 1) + 1) + 1) + 1) + 1) + 1) + 1) + 1) + 1) + 1) + 1) + 1) + 1) + 1) + 1)) (rfl) dX4_feed_83 ?_
    refine lv_iload hx hb dX4_feed_86 (lv_at hl 0 rfl) ?_
    refine lv_bipush (v := 24) hx hb dX4_feed_88 (by decide) ?_
    refine lv_bipush (v := 8) hx hb dX4_feed_90 (by decide) ?_
    refine lv_iload hx hb dX4_feed_92 (lv_at hl 1 rfl) ?_
    refine lv_iconst (v := 4) hx hb dX4_feed_94 (by decide) ?_
    refine lv_irem hx hb dX4_feed_95 (by decide) ?_
    refine lv_eqi (show 19 - 19 / 4 * 4 = 3 from by decide) ?_
    refine lv_imul hx hb dX4_feed_96 ?_
    refine lv_eqi (show 8 * 3 = 24 from by decide) ?_
    refine lv_isub hx hb dX4_feed_97 ?_
    refine lv_eqi (show 24 - 24 = 0 from by decide) ?_
    refine lv_ishr hx hb dX4_feed_98 ?_
    refine lv_i2b hx hb dX4_feed_99 rfl ?_
    refine sM21 hF hW (j := (((((((((((((((((((tp + 1) + 1) + 1) + 1) + 1) + 1) + 1) + 1) + 1) + 1) + 1) + 1) + 1) + 1) + 1) + 1) + 1) + 1) + 1)) (rfl) (by omega) dX4_feed_100 (fun H locs hW => ?_)
    have hW : pM G (MWl G ad (xa (xi (xi y 0 0) 11 (nI (((((((((((((((((((tp + 1) + 1) + 1) + 1) + 1) + 1) + 1) + 1) + 1) + 1) + 1) + 1) + 1) + 1) + 1) + 1) + 1) + 1) + 1))) 13 (va_up (va_up (va_up (va_up (va_up (va_up (va_up (va_up (va_up (va_up (va_up (va_up (va_up (va_up (va_up (va_up (va_up (va_up (va_up (va_up (y.2.1 13) tp (vp_nar .byte ((a0 >>> (24 &&& 31)).toInt8.toInt32))) (tp + 1) (vp_nar .byte ((a0 >>> (16 &&& 31)).toInt8.toInt32))) ((tp + 1) + 1) (vp_nar .byte ((a0 >>> (8 &&& 31)).toInt8.toInt32))) (((tp + 1) + 1) + 1) (vp_nar .byte ((a0 >>> (0 &&& 31)).toInt8.toInt32))) ((((tp + 1) + 1) + 1) + 1) (vp_nar .byte ((a1 >>> (24 &&& 31)).toInt8.toInt32))) (((((tp + 1) + 1) + 1) + 1) + 1) (vp_nar .byte ((a1 >>> (16 &&& 31)).toInt8.toInt32))) ((((((tp + 1) + 1) + 1) + 1) + 1) + 1) (vp_nar .byte ((a1 >>> (8 &&& 31)).toInt8.toInt32))) (((((((tp + 1) + 1) + 1) + 1) + 1) + 1) + 1) (vp_nar .byte ((a1 >>> (0 &&& 31)).toInt8.toInt32))) ((((((((tp + 1) + 1) + 1) + 1) + 1) + 1) + 1) + 1) (vp_nar .byte ((a2 >>> (24 &&& 31)).toInt8.toInt32))) (((((((((tp + 1) + 1) + 1) + 1) + 1) + 1) + 1) + 1) + 1) (vp_nar .byte ((a2 >>> (16 &&& 31)).toInt8.toInt32))) ((((((((((tp + 1) + 1) + 1) + 1) + 1) + 1) + 1) + 1) + 1) + 1) (vp_nar .byte ((a2 >>> (8 &&& 31)).toInt8.toInt32))) (((((((((((tp + 1) + 1) + 1) + 1) + 1) + 1) + 1) + 1) + 1) + 1) + 1) (vp_nar .byte ((a2 >>> (0 &&& 31)).toInt8.toInt32))) ((((((((((((tp + 1) + 1) + 1) + 1) + 1) + 1) + 1) + 1) + 1) + 1) + 1) + 1) (vp_nar .byte ((a3 >>> (24 &&& 31)).toInt8.toInt32))) (((((((((((((tp + 1) + 1) + 1) + 1) + 1) + 1) + 1) + 1) + 1) + 1) + 1) + 1) + 1) (vp_nar .byte ((a3 >>> (16 &&& 31)).toInt8.toInt32))) ((((((((((((((tp + 1) + 1) + 1) + 1) + 1) + 1) + 1) + 1) + 1) + 1) + 1) + 1) + 1) + 1) (vp_nar .byte ((a3 >>> (8 &&& 31)).toInt8.toInt32))) (((((((((((((((tp + 1) + 1) + 1) + 1) + 1) + 1) + 1) + 1) + 1) + 1) + 1) + 1) + 1) + 1) + 1) (vp_nar .byte ((a3 >>> (0 &&& 31)).toInt8.toInt32))) ((((((((((((((((tp + 1) + 1) + 1) + 1) + 1) + 1) + 1) + 1) + 1) + 1) + 1) + 1) + 1) + 1) + 1) + 1) (vp_nar .byte ((a4 >>> (24 &&& 31)).toInt8.toInt32))) (((((((((((((((((tp + 1) + 1) + 1) + 1) + 1) + 1) + 1) + 1) + 1) + 1) + 1) + 1) + 1) + 1) + 1) + 1) + 1) (vp_nar .byte ((a4 >>> (16 &&& 31)).toInt8.toInt32))) ((((((((((((((((((tp + 1) + 1) + 1) + 1) + 1) + 1) + 1) + 1) + 1) + 1) + 1) + 1) + 1) + 1) + 1) + 1) + 1) + 1) (vp_nar .byte ((a4 >>> (8 &&& 31)).toInt8.toInt32))) (((((((((((((((((((tp + 1) + 1) + 1) + 1) + 1) + 1) + 1) + 1) + 1) + 1) + 1) + 1) + 1) + 1) + 1) + 1) + 1) + 1) + 1) (vp_nar .byte ((a4 >>> (0 &&& 31)).toInt8.toInt32)))) ++ W0) s _ _ := hW
    refine lv_aload_n hx hb dX4_feed_101 rfl (lv_at hl 2 rfl) ?_
    refine lv_dup hx hb dX4_feed_102 rfl ?_
    refine gM0_taped hF hW q1127 (v := nI (((((((((((((((((((tp + 1) + 1) + 1) + 1) + 1) + 1) + 1) + 1) + 1) + 1) + 1) + 1) + 1) + 1) + 1) + 1) + 1) + 1) + 1)) (rfl) dX4_feed_103 ?_
    refine lv_iconst (v := 1) hx hb dX4_feed_106 (by decide) ?_
    refine lv_iadd hx hb dX4_feed_107 ?_
    refine lv_eqi (show (nI (((((((((((((((((((tp + 1) + 1) + 1) + 1) + 1) + 1) + 1) + 1) + 1) + 1) + 1) + 1) + 1) + 1) + 1) + 1) + 1) + 1) + 1)) + 1 = nI ((((((((((((((((((((tp + 1) + 1) + 1) + 1) + 1) + 1) + 1) + 1) + 1) + 1) + 1) + 1) + 1) + 1) + 1) + 1) + 1) + 1) + 1) + 1) from nI_add (((((((((((((((((((tp + 1) + 1) + 1) + 1) + 1) + 1) + 1) + 1) + 1) + 1) + 1) + 1) + 1) + 1) + 1) + 1) + 1) + 1) + 1) 1) ?_
    refine pM0_taped hF hW q1127 dX4_feed_108 (fun H locs hW => ?_)
    have hW : pM G (MWl G ad (xa (xi (xi y 0 0) 11 (nI ((((((((((((((((((((tp + 1) + 1) + 1) + 1) + 1) + 1) + 1) + 1) + 1) + 1) + 1) + 1) + 1) + 1) + 1) + 1) + 1) + 1) + 1) + 1))) 13 (va_up (va_up (va_up (va_up (va_up (va_up (va_up (va_up (va_up (va_up (va_up (va_up (va_up (va_up (va_up (va_up (va_up (va_up (va_up (va_up (y.2.1 13) tp (vp_nar .byte ((a0 >>> (24 &&& 31)).toInt8.toInt32))) (tp + 1) (vp_nar .byte ((a0 >>> (16 &&& 31)).toInt8.toInt32))) ((tp + 1) + 1) (vp_nar .byte ((a0 >>> (8 &&& 31)).toInt8.toInt32))) (((tp + 1) + 1) + 1) (vp_nar .byte ((a0 >>> (0 &&& 31)).toInt8.toInt32))) ((((tp + 1) + 1) + 1) + 1) (vp_nar .byte ((a1 >>> (24 &&& 31)).toInt8.toInt32))) (((((tp + 1) + 1) + 1) + 1) + 1) (vp_nar .byte ((a1 >>> (16 &&& 31)).toInt8.toInt32))) ((((((tp + 1) + 1) + 1) + 1) + 1) + 1) (vp_nar .byte ((a1 >>> (8 &&& 31)).toInt8.toInt32))) (((((((tp + 1) + 1) + 1) + 1) + 1) + 1) + 1) (vp_nar .byte ((a1 >>> (0 &&& 31)).toInt8.toInt32))) ((((((((tp + 1) + 1) + 1) + 1) + 1) + 1) + 1) + 1) (vp_nar .byte ((a2 >>> (24 &&& 31)).toInt8.toInt32))) (((((((((tp + 1) + 1) + 1) + 1) + 1) + 1) + 1) + 1) + 1) (vp_nar .byte ((a2 >>> (16 &&& 31)).toInt8.toInt32))) ((((((((((tp + 1) + 1) + 1) + 1) + 1) + 1) + 1) + 1) + 1) + 1) (vp_nar .byte ((a2 >>> (8 &&& 31)).toInt8.toInt32))) (((((((((((tp + 1) + 1) + 1) + 1) + 1) + 1) + 1) + 1) + 1) + 1) + 1) (vp_nar .byte ((a2 >>> (0 &&& 31)).toInt8.toInt32))) ((((((((((((tp + 1) + 1) + 1) + 1) + 1) + 1) + 1) + 1) + 1) + 1) + 1) + 1) (vp_nar .byte ((a3 >>> (24 &&& 31)).toInt8.toInt32))) (((((((((((((tp + 1) + 1) + 1) + 1) + 1) + 1) + 1) + 1) + 1) + 1) + 1) + 1) + 1) (vp_nar .byte ((a3 >>> (16 &&& 31)).toInt8.toInt32))) ((((((((((((((tp + 1) + 1) + 1) + 1) + 1) + 1) + 1) + 1) + 1) + 1) + 1) + 1) + 1) + 1) (vp_nar .byte ((a3 >>> (8 &&& 31)).toInt8.toInt32))) (((((((((((((((tp + 1) + 1) + 1) + 1) + 1) + 1) + 1) + 1) + 1) + 1) + 1) + 1) + 1) + 1) + 1) (vp_nar .byte ((a3 >>> (0 &&& 31)).toInt8.toInt32))) ((((((((((((((((tp + 1) + 1) + 1) + 1) + 1) + 1) + 1) + 1) + 1) + 1) + 1) + 1) + 1) + 1) + 1) + 1) (vp_nar .byte ((a4 >>> (24 &&& 31)).toInt8.toInt32))) (((((((((((((((((tp + 1) + 1) + 1) + 1) + 1) + 1) + 1) + 1) + 1) + 1) + 1) + 1) + 1) + 1) + 1) + 1) + 1) (vp_nar .byte ((a4 >>> (16 &&& 31)).toInt8.toInt32))) ((((((((((((((((((tp + 1) + 1) + 1) + 1) + 1) + 1) + 1) + 1) + 1) + 1) + 1) + 1) + 1) + 1) + 1) + 1) + 1) + 1) (vp_nar .byte ((a4 >>> (8 &&& 31)).toInt8.toInt32))) (((((((((((((((((((tp + 1) + 1) + 1) + 1) + 1) + 1) + 1) + 1) + 1) + 1) + 1) + 1) + 1) + 1) + 1) + 1) + 1) + 1) + 1) (vp_nar .byte ((a4 >>> (0 &&& 31)).toInt8.toInt32)))) ++ W0) s _ _ := hW
    refine lv_iinc (v := 20) (lv' := [(6, .int 20), (7, .int a4), (0, .ref (ad 0)), (1, .int a0), (2, .int a1), (3, .int a2), (4, .int a3), (5, .int a4)]) hx hb dX4_feed_111 hl (k := 1) rfl (by decide) (by decide) rfl (fun ls hl => ?_)
    refine lv_goto (tgt := 23) hx hb dX4_feed_114 (by decide) ?_
    refine lv_iload hx hb dX4_feed_23 (lv_at hl 0 rfl) ?_
    refine lv_bipush (v := 20) hx hb dX4_feed_25 (by decide) ?_
    refine lv_icmp_ge (tgt := 117) hx hb dX4_feed_27 (by decide) (fun c_27 => ?_) (fun c_27 => absurd c_27 (by decide))
    refine lv_aload_n hx hb dX4_feed_117 rfl (lv_at hl 2 rfl) ?_
    refine gM0_taped hF hW q1127 (v := nI ((((((((((((((((((((tp + 1) + 1) + 1) + 1) + 1) + 1) + 1) + 1) + 1) + 1) + 1) + 1) + 1) + 1) + 1) + 1) + 1) + 1) + 1) + 1)) (rfl) dX4_feed_118 ?_
    exact re_i hF hRt hLk hQ (by omega) (by omega) dX4_feed_121 (xa (xi (xi y 0 0) 11 (nI ((((((((((((((((((((tp + 1) + 1) + 1) + 1) + 1) + 1) + 1) + 1) + 1) + 1) + 1) + 1) + 1) + 1) + 1) + 1) + 1) + 1) + 1) + 1))) 13 (va_up (va_up (va_up (va_up (va_up (va_up (va_up (va_up (va_up (va_up (va_up (va_up (va_up (va_up (va_up (va_up (va_up (va_up (va_up (va_up (y.2.1 13) tp (vp_nar .byte ((a0 >>> (24 &&& 31)).toInt8.toInt32))) (tp + 1) (vp_nar .byte ((a0 >>> (16 &&& 31)).toInt8.toInt32))) ((tp + 1) + 1) (vp_nar .byte ((a0 >>> (8 &&& 31)).toInt8.toInt32))) (((tp + 1) + 1) + 1) (vp_nar .byte ((a0 >>> (0 &&& 31)).toInt8.toInt32))) ((((tp + 1) + 1) + 1) + 1) (vp_nar .byte ((a1 >>> (24 &&& 31)).toInt8.toInt32))) (((((tp + 1) + 1) + 1) + 1) + 1) (vp_nar .byte ((a1 >>> (16 &&& 31)).toInt8.toInt32))) ((((((tp + 1) + 1) + 1) + 1) + 1) + 1) (vp_nar .byte ((a1 >>> (8 &&& 31)).toInt8.toInt32))) (((((((tp + 1) + 1) + 1) + 1) + 1) + 1) + 1) (vp_nar .byte ((a1 >>> (0 &&& 31)).toInt8.toInt32))) ((((((((tp + 1) + 1) + 1) + 1) + 1) + 1) + 1) + 1) (vp_nar .byte ((a2 >>> (24 &&& 31)).toInt8.toInt32))) (((((((((tp + 1) + 1) + 1) + 1) + 1) + 1) + 1) + 1) + 1) (vp_nar .byte ((a2 >>> (16 &&& 31)).toInt8.toInt32))) ((((((((((tp + 1) + 1) + 1) + 1) + 1) + 1) + 1) + 1) + 1) + 1) (vp_nar .byte ((a2 >>> (8 &&& 31)).toInt8.toInt32))) (((((((((((tp + 1) + 1) + 1) + 1) + 1) + 1) + 1) + 1) + 1) + 1) + 1) (vp_nar .byte ((a2 >>> (0 &&& 31)).toInt8.toInt32))) ((((((((((((tp + 1) + 1) + 1) + 1) + 1) + 1) + 1) + 1) + 1) + 1) + 1) + 1) (vp_nar .byte ((a3 >>> (24 &&& 31)).toInt8.toInt32))) (((((((((((((tp + 1) + 1) + 1) + 1) + 1) + 1) + 1) + 1) + 1) + 1) + 1) + 1) + 1) (vp_nar .byte ((a3 >>> (16 &&& 31)).toInt8.toInt32))) ((((((((((((((tp + 1) + 1) + 1) + 1) + 1) + 1) + 1) + 1) + 1) + 1) + 1) + 1) + 1) + 1) (vp_nar .byte ((a3 >>> (8 &&& 31)).toInt8.toInt32))) (((((((((((((((tp + 1) + 1) + 1) + 1) + 1) + 1) + 1) + 1) + 1) + 1) + 1) + 1) + 1) + 1) + 1) (vp_nar .byte ((a3 >>> (0 &&& 31)).toInt8.toInt32))) ((((((((((((((((tp + 1) + 1) + 1) + 1) + 1) + 1) + 1) + 1) + 1) + 1) + 1) + 1) + 1) + 1) + 1) + 1) (vp_nar .byte ((a4 >>> (24 &&& 31)).toInt8.toInt32))) (((((((((((((((((tp + 1) + 1) + 1) + 1) + 1) + 1) + 1) + 1) + 1) + 1) + 1) + 1) + 1) + 1) + 1) + 1) + 1) (vp_nar .byte ((a4 >>> (16 &&& 31)).toInt8.toInt32))) ((((((((((((((((((tp + 1) + 1) + 1) + 1) + 1) + 1) + 1) + 1) + 1) + 1) + 1) + 1) + 1) + 1) + 1) + 1) + 1) + 1) (vp_nar .byte ((a4 >>> (8 &&& 31)).toInt8.toInt32))) (((((((((((((((((((tp + 1) + 1) + 1) + 1) + 1) + 1) + 1) + 1) + 1) + 1) + 1) + 1) + 1) + 1) + 1) + 1) + 1) + 1) + 1) (vp_nar .byte ((a4 >>> (0 &&& 31)).toInt8.toInt32)))) (by unfold feedS; rw [if_pos (by rw [← htp]; exact hle), ← htp, ← m14]; exact ⟨rfl, ⟨m0, m1, m2, m3, m4, m5, m6, m7, m8, m9, m10, m11, m12, rfl, rfl, m15, m16, m17, m18, m19, m20, m21, m22⟩⟩) hW
  · have hle : ¬ tp + 20 ≤ 300 := fun z => c_15 ((nI_leI (b := 300) (by omega) (by decide)).mpr z)
    refine lv_iconst (v := (-1)) hx hb dX4_feed_18 (by decide) ?_
    exact re_i hF hRt hLk hQ (by omega) (by omega) dX4_feed_19 (xi y 0 0) (by unfold feedS; rw [if_neg (by rw [← htp]; exact hle)]; exact ⟨rfl, ⟨m0, m1, m2, m3, m4, m5, m6, m7, m8, m9, m10, m11, m12, m13.trans (by rw [htp]), m14, m15, m16, m17, m18, m19, m20, m21, m22⟩⟩) hW

set_option maxRecDepth 100000 in
set_option maxHeartbeats 16000000 in
theorem mX4_undo (l : Launch) (G : pG) (ad : Nat → Nat) (y : XV) (W0 T : va_W) (hT : ∀ q ∈ T, q ∈ W0) (S : AS) (n9 : Nat) (hS : SOk n9 S) (hn9 : n9 ≤ 64) (hMR : MR G T y S) : Met l yX4_undo (ws_ yX4_undo cX4_undo 2 (some .int)) ({ frames := 0, cells := 0, slots := 0, locals := 0 } : Room) (va_Pc [.ref (ad 0)] (fun U => pW G (MWl G ad y ++ W0) U)) (va_Qi (fun r (u : XV) => r = (undoS S).2 ∧ MR G T u (undoS S).1) (fun (u : XV) t9 => pW G (MWl G ad u ++ W0) t9) (pA G)) 0 0 (pA G) := by
  refine mw (by decide) (Nat.le_of_ble_eq_true rfl) ?_
  intro pp ee R s m below meth c ls Q hF hRt hLk hnm hR hQ hW hl
  have hx := hF.1
  have hb := hF.2.1
  have hts := hF.2.2.2.2
  have hR1 : R.frames = 0 := by rw [hR]
  have hR2 : R.cells = 0 := by rw [hR]
  have hR3 : R.slots = 0 := by rw [hR]
  have hR4 : R.locals = 0 := by rw [hR]
  have hl : lv_has ls 2 [(0, .ref (ad 0))] := hl
  have hW : pM G (MWl G ad y ++ W0) s s.heap [] := hW
  obtain ⟨m0, m1, m2, m3, m4, m5, m6, m7, m8, m9, m10, m11, m12, m13, m14, m15, m16, m17, m18, m19, m20, m21, m22⟩ := hMR
  have hI := hS.inv
  have b0 := hI.1.1
  have b1 := hI.2.1.1
  have b2 := hI.2.2.1.1
  have b3 := hI.2.2.2.1.1
  have b4 := hI.2.2.2.2.1.1
  have b5 := hI.2.2.2.2.2
  have b6 := hS.2.1
  have b7 := hS.2.2.1
  have b8 := hS.2.2.2.1
  have b9 := hS.2.2.2.2.1
  cases hA : S.2.1 with
  | nil =>
    rw [hA] at m11 m12
    refine lv_aload_n hx hb dX4_undo_0 rfl (lv_at hl 0 rfl) ?_
    refine lv_iconst (v := 0) hx hb dX4_undo_1 (by decide) ?_
    refine pM0_thrown hF hW q1095 dX4_undo_2 (fun H locs hW => ?_)
    have hW : pM G (MWl G ad (xi y 0 0) ++ W0) s _ _ := hW
    refine lv_aload_n hx hb dX4_undo_5 rfl (lv_at hl 0 rfl) ?_
    refine gM0_acts hF hW q1124 (v := 0) (m11) dX4_undo_6 ?_
    refine lv_if_ne (tgt := 14) hx hb dX4_undo_9 (by decide) (fun c_9 => absurd c_9 (by decide)) (fun c_9 => ?_)
    refine lv_iconst (v := 0) hx hb dX4_undo_12 (by decide) ?_
    exact re_i hF hRt hLk hQ (by omega) (by omega) dX4_undo_13 (xi y 0 0) (by unfold undoS; rw [hA]; exact ⟨rfl, ⟨m0, m1, m2, m3, m4, m5, m6, m7, m8, m9, m10, m11.trans (by rw [hA]), (by rw [hA]; trivial), m13, m14, m15, m16, m17, m18, m19, m20, m21, m22⟩⟩) hW
  | cons a as =>
    have hCh := hS.1
    rw [hA] at m11 m12 b6 hCh
    have b6 : as.length + 1 ≤ n9 := b6
    obtain ⟨-, hv, -⟩ := hCh
    have m11 : y.1 10 = nI (as.length + 1) := m11
    refine lv_aload_n hx hb dX4_undo_0 rfl (lv_at hl 0 rfl) ?_
    refine lv_iconst (v := 0) hx hb dX4_undo_1 (by decide) ?_
    refine pM0_thrown hF hW q1095 dX4_undo_2 (fun H locs hW => ?_)
    have hW : pM G (MWl G ad (xi y 0 0) ++ W0) s _ _ := hW
    refine lv_aload_n hx hb dX4_undo_5 rfl (lv_at hl 0 rfl) ?_
    refine gM0_acts hF hW q1124 (v := nI (as.length + 1)) (m11) dX4_undo_6 ?_
    refine lv_if_ne (tgt := 14) hx hb dX4_undo_9 (by decide) (fun c_9 => ?_) (fun c_9 => absurd c_9 (fun z => by have := eq_eq (b := 0) z; omega))
    refine lv_aload_n hx hb dX4_undo_14 rfl (lv_at hl 0 rfl) ?_
    refine lv_dup hx hb dX4_undo_15 rfl ?_
    refine gM0_acts hF hW q1124 (v := nI (as.length + 1)) (m11) dX4_undo_16 ?_
    refine lv_iconst (v := 1) hx hb dX4_undo_19 (by decide) ?_
    refine lv_isub hx hb dX4_undo_20 ?_
    refine lv_eqi (show (nI (as.length + 1)) - 1 = nI as.length from nI_m1 _) ?_
    refine pM0_acts hF hW q1124 dX4_undo_21 (fun H locs hW => ?_)
    have hW : pM G (MWl G ad (xi (xi y 0 0) 10 (nI as.length)) ++ W0) s _ _ := hW
    refine lv_aload_n hx hb dX4_undo_24 rfl (lv_at hl 0 rfl) ?_
    refine gM0_actOne hF hW q1122 dX4_undo_25 ?_
    refine lv_aload_n hx hb dX4_undo_28 rfl (lv_at hl 0 rfl) ?_
    refine gM0_acts hF hW q1124 (v := nI as.length) (rfl) dX4_undo_29 ?_
    refine lM18 hF hW (j := as.length) (rfl) (by omega) (v := nI a.2.1) (m12.1.2.1) dX4_undo_32 ?_
    refine lv_istore_n (lv' := [(1, .int (nI a.2.1)), (0, .ref (ad 0))]) hx hb dX4_undo_33 rfl hl (by decide) rfl (fun ls hl => ?_)
    refine lv_aload_n hx hb dX4_undo_34 rfl (lv_at hl 1 rfl) ?_
    refine gM0_actWhat hF hW q1121 dX4_undo_35 ?_
    refine lv_aload_n hx hb dX4_undo_38 rfl (lv_at hl 1 rfl) ?_
    refine gM0_acts hF hW q1124 (v := nI as.length) (rfl) dX4_undo_39 ?_
    refine lM17 hF hW (j := as.length) (rfl) (by omega) (v := nI a.1) (m12.1.1) dX4_undo_42 ?_
    rcases (show a.1 = 0 ∨ a.1 = 1 ∨ a.1 = 2 ∨ a.1 = 3 ∨ a.1 = 4 ∨ a.1 = 5 ∨ a.1 = 6 ∨ a.1 = 7 ∨ a.1 = 8 by have := hv.1; omega) with hk | hk | hk | hk | hk | hk | hk | hk | hk
    · refine lv_eqi (show nI a.1 = 0 from by rw [hk]; rfl) ?_
      refine lv_tableIn (tgt := 88) hx hb dX4_undo_43 (by decide) (by decide) rfl rfl ?_
      refine lv_aload_n hx hb dX4_undo_88 rfl (lv_at hl 1 rfl) ?_
      refine lv_dup hx hb dX4_undo_89 rfl ?_
      refine gM0_words hF hW q1099 (v := nI (cW S.1).length) (m0) dX4_undo_90 ?_
      refine lv_iconst (v := 1) hx hb dX4_undo_93 (by decide) ?_
      refine lv_isub hx hb dX4_undo_94 ?_
      refine lv_eqi (show (nI (cW S.1).length) - 1 = nI (cW S.1).dropLast.length from len_cut (hv.2.1 hk)) ?_
      refine pM0_words hF hW q1099 dX4_undo_95 (fun H locs hW => ?_)
      have hW : pM G (MWl G ad (xi (xi (xi y 0 0) 4 (nI (cW S.1).dropLast.length)) 10 (nI as.length)) ++ W0) s _ _ := hW
      refine lv_goto (tgt := 196) hx hb dX4_undo_98 (by decide) ?_
      refine lv_iconst (v := 1) hx hb dX4_undo_196 (by decide) ?_
      exact re_i hF hRt hLk hQ (by omega) (by omega) dX4_undo_197 (xi (xi (xi y 0 0) 4 (nI (cW S.1).dropLast.length)) 10 (nI as.length)) (by unfold undoS; rw [hA]; dsimp only; unfold undoC; rw [if_pos hk]; exact ⟨rfl, ⟨rfl, WrdR.cut m1 hI.1.2.1, m2, m3, m4, m5, m6, m7, m8, m9, m10, rfl, m12.2, m13, m14, m15, m16, m17, m18, m19, m20, m21, m22⟩⟩) hW
    · refine lv_eqi (show nI a.1 = 1 from by rw [hk]; rfl) ?_
      refine lv_tableIn (tgt := 101) hx hb dX4_undo_43 (by decide) (by decide) rfl rfl ?_
      refine lv_aload_n hx hb dX4_undo_101 rfl (lv_at hl 1 rfl) ?_
      refine lv_iload_n hx hb dX4_undo_102 rfl (lv_at hl 0 rfl) ?_
      refine pM0_now hF hW q1104 dX4_undo_103 (fun H locs hW => ?_)
      have hW : pM G (MWl G ad (xi (xi (xi y 0 0) 9 (nI a.2.1)) 10 (nI as.length)) ++ W0) s _ _ := hW
      refine lv_goto (tgt := 196) hx hb dX4_undo_106 (by decide) ?_
      refine lv_iconst (v := 1) hx hb dX4_undo_196 (by decide) ?_
      exact re_i hF hRt hLk hQ (by omega) (by omega) dX4_undo_197 (xi (xi (xi y 0 0) 9 (nI a.2.1)) 10 (nI as.length)) (by unfold undoS; rw [hA]; dsimp only; unfold undoC; rw [if_neg (show ¬ a.1 = 0 by omega), if_pos hk]; exact ⟨rfl, ⟨m0, m1, m2, m3, m4, m5, m6, m7, m8, m9, rfl, rfl, m12.2, m13, m14, m15, m16, m17, m18, m19, m20, m21, m22⟩⟩) hW
    · refine lv_eqi (show nI a.1 = 2 from by rw [hk]; rfl) ?_
      refine lv_tableIn (tgt := 109) hx hb dX4_undo_43 (by decide) (by decide) rfl rfl ?_
      refine lv_aload_n hx hb dX4_undo_109 rfl (lv_at hl 1 rfl) ?_
      refine lv_dup hx hb dX4_undo_110 rfl ?_
      refine gM0_papers hF hW q1100 (v := nI (cP S.1).length) (m2) dX4_undo_111 ?_
      refine lv_iconst (v := 1) hx hb dX4_undo_114 (by decide) ?_
      refine lv_isub hx hb dX4_undo_115 ?_
      refine lv_eqi (show (nI (cP S.1).length) - 1 = nI (cP S.1).dropLast.length from len_cut (hv.2.2.2.1 hk)) ?_
      refine pM0_papers hF hW q1100 dX4_undo_116 (fun H locs hW => ?_)
      have hW : pM G (MWl G ad (xi (xi (xi y 0 0) 5 (nI (cP S.1).dropLast.length)) 10 (nI as.length)) ++ W0) s _ _ := hW
      refine lv_goto (tgt := 196) hx hb dX4_undo_119 (by decide) ?_
      refine lv_iconst (v := 1) hx hb dX4_undo_196 (by decide) ?_
      exact re_i hF hRt hLk hQ (by omega) (by omega) dX4_undo_197 (xi (xi (xi y 0 0) 5 (nI (cP S.1).dropLast.length)) 10 (nI as.length)) (by unfold undoS; rw [hA]; dsimp only; unfold undoC; rw [if_neg (show ¬ a.1 = 0 by omega), if_neg (show ¬ a.1 = 1 by omega), if_pos hk]; exact ⟨rfl, ⟨m0, m1, rfl, m3.cut, m4, m5, m6, m7, m8, m9, m10, rfl, m12.2, m13, m14, m15, m16, m17, m18, m19, m20, m21, m22⟩⟩) hW
    · refine lv_eqi (show nI a.1 = 3 from by rw [hk]; rfl) ?_
      refine lv_tableIn (tgt := 122) hx hb dX4_undo_43 (by decide) (by decide) rfl rfl ?_
      refine lv_aload_n hx hb dX4_undo_122 rfl (lv_at hl 1 rfl) ?_
      refine lv_dup hx hb dX4_undo_123 rfl ?_
      refine gM0_things hF hW q1103 (v := nI (cT S.1).length) (m6) dX4_undo_124 ?_
      refine lv_iconst (v := 1) hx hb dX4_undo_127 (by decide) ?_
      refine lv_isub hx hb dX4_undo_128 ?_
      refine lv_eqi (show (nI (cT S.1).length) - 1 = nI (cT S.1).dropLast.length from len_cut (hv.2.2.2.2.1 hk)) ?_
      refine pM0_things hF hW q1103 dX4_undo_129 (fun H locs hW => ?_)
      have hW : pM G (MWl G ad (xi (xi (xi y 0 0) 8 (nI (cT S.1).dropLast.length)) 10 (nI as.length)) ++ W0) s _ _ := hW
      refine lv_goto (tgt := 196) hx hb dX4_undo_132 (by decide) ?_
      refine lv_iconst (v := 1) hx hb dX4_undo_196 (by decide) ?_
      exact re_i hF hRt hLk hQ (by omega) (by omega) dX4_undo_197 (xi (xi (xi y 0 0) 8 (nI (cT S.1).dropLast.length)) 10 (nI as.length)) (by unfold undoS; rw [hA]; dsimp only; unfold undoC; rw [if_neg (show ¬ a.1 = 0 by omega), if_neg (show ¬ a.1 = 1 by omega), if_neg (show ¬ a.1 = 2 by omega), if_pos hk]; exact ⟨rfl, ⟨m0, m1, m2, m3, m4, m5, rfl, m7.cut, m8, m9, m10, rfl, m12.2, m13, m14, m15, m16, m17, m18, m19, m20, m21, m22⟩⟩) hW
    · refine lv_eqi (show nI a.1 = 4 from by rw [hk]; rfl) ?_
      refine lv_tableIn (tgt := 135) hx hb dX4_undo_43 (by decide) (by decide) rfl rfl ?_
      refine lv_aload_n hx hb dX4_undo_135 rfl (lv_at hl 1 rfl) ?_
      refine lv_dup hx hb dX4_undo_136 rfl ?_
      refine gM0_files hF hW q1101 (v := nI (cF S.1).length) (m4) dX4_undo_137 ?_
      refine lv_iconst (v := 1) hx hb dX4_undo_140 (by decide) ?_
      refine lv_isub hx hb dX4_undo_141 ?_
      refine lv_eqi (show (nI (cF S.1).length) - 1 = nI (cF S.1).dropLast.length from len_cut (hv.2.2.2.2.2.1 hk)) ?_
      refine pM0_files hF hW q1101 dX4_undo_142 (fun H locs hW => ?_)
      have hW : pM G (MWl G ad (xi (xi (xi y 0 0) 6 (nI (cF S.1).dropLast.length)) 10 (nI as.length)) ++ W0) s _ _ := hW
      refine lv_goto (tgt := 196) hx hb dX4_undo_145 (by decide) ?_
      refine lv_iconst (v := 1) hx hb dX4_undo_196 (by decide) ?_
      exact re_i hF hRt hLk hQ (by omega) (by omega) dX4_undo_197 (xi (xi (xi y 0 0) 6 (nI (cF S.1).dropLast.length)) 10 (nI as.length)) (by unfold undoS; rw [hA]; dsimp only; unfold undoC; rw [if_neg (show ¬ a.1 = 0 by omega), if_neg (show ¬ a.1 = 1 by omega), if_neg (show ¬ a.1 = 2 by omega), if_neg (show ¬ a.1 = 3 by omega), if_pos hk]; exact ⟨rfl, ⟨m0, m1, m2, m3, rfl, m5.cut, m6, m7, m8, m9, m10, rfl, m12.2, m13, m14, m15, m16, m17, m18, m19, m20, m21, m22⟩⟩) hW
    · refine lv_eqi (show nI a.1 = 5 from by rw [hk]; rfl) ?_
      refine lv_tableIn (tgt := 148) hx hb dX4_undo_43 (by decide) (by decide) rfl rfl ?_
      refine lv_aload_n hx hb dX4_undo_148 rfl (lv_at hl 1 rfl) ?_
      refine lv_dup hx hb dX4_undo_149 rfl ?_
      refine gM0_claims hF hW q1102 (v := nI (cC S.1).length) (m8) dX4_undo_150 ?_
      refine lv_iconst (v := 1) hx hb dX4_undo_153 (by decide) ?_
      refine lv_isub hx hb dX4_undo_154 ?_
      refine lv_eqi (show (nI (cC S.1).length) - 1 = nI (cC S.1).dropLast.length from len_cut (hv.2.2.2.2.2.2.1 hk)) ?_
      refine pM0_claims hF hW q1102 dX4_undo_155 (fun H locs hW => ?_)
      have hW : pM G (MWl G ad (xi (xi (xi y 0 0) 7 (nI (cC S.1).dropLast.length)) 10 (nI as.length)) ++ W0) s _ _ := hW
      refine lv_goto (tgt := 196) hx hb dX4_undo_158 (by decide) ?_
      refine lv_iconst (v := 1) hx hb dX4_undo_196 (by decide) ?_
      exact re_i hF hRt hLk hQ (by omega) (by omega) dX4_undo_197 (xi (xi (xi y 0 0) 7 (nI (cC S.1).dropLast.length)) 10 (nI as.length)) (by unfold undoS; rw [hA]; dsimp only; unfold undoC; rw [if_neg (show ¬ a.1 = 0 by omega), if_neg (show ¬ a.1 = 1 by omega), if_neg (show ¬ a.1 = 2 by omega), if_neg (show ¬ a.1 = 3 by omega), if_neg (show ¬ a.1 = 4 by omega), if_pos hk]; exact ⟨rfl, ⟨m0, m1, m2, m3, m4, m5, m6, m7, rfl, m9.cut, m10, rfl, m12.2, m13, m14, m15, m16, m17, m18, m19, m20, m21, m22⟩⟩) hW
    · refine lv_eqi (show nI a.1 = 6 from by rw [hk]; rfl) ?_
      have ha2 := hv.2.2.2.2.2.2.2 (by omega)
      obtain ⟨q, hq1, hq2⟩ := m12.1.2.2 hk
      obtain ⟨an9, aw9, af9, av9, at9, nf9, wf9, ff9, vf9, tf9, hq3, -⟩ := id hq2
      have hq3 := hT _ hq3
      refine lv_tableIn (tgt := 161) hx hb dX4_undo_43 (by decide) (by decide) rfl rfl ?_
      refine lv_aload_n hx hb dX4_undo_161 rfl (lv_at hl 1 rfl) ?_
      refine gM0_claim hF hW q1110 dX4_undo_162 ?_
      refine lv_iload_n hx hb dX4_undo_165 rfl (lv_at hl 0 rfl) ?_
      refine lv_aload_n hx hb dX4_undo_166 rfl (lv_at hl 1 rfl) ?_
      refine gM0_actText hF hW q1123 dX4_undo_167 ?_
      refine lv_aload_n hx hb dX4_undo_170 rfl (lv_at hl 1 rfl) ?_
      refine gM0_acts hF hW q1124 (v := nI as.length) (rfl) dX4_undo_171 ?_
      refine lM19 hF hW (j := as.length) (rfl) (by omega) (r := q) (hq1) dX4_undo_174 ?_
      refine sM6 hF hW (ms_r hq3) (ci := 22) rfl rfl (j := a.2.1) (rfl) (by omega) dX4_undo_175 (fun H locs hW => ?_)
      have hW : pM G (MWl G ad (xr (xi (xi y 0 0) 10 (nI as.length)) 3 (va_up (y.2.2.1 3) a.2.1 (some q))) ++ W0) s _ _ := hW
      refine lv_goto (tgt := 196) hx hb dX4_undo_176 (by decide) ?_
      refine lv_iconst (v := 1) hx hb dX4_undo_196 (by decide) ?_
      exact re_i hF hRt hLk hQ (by omega) (by omega) dX4_undo_197 (xr (xi (xi y 0 0) 10 (nI as.length)) 3 (va_up (y.2.2.1 3) a.2.1 (some q))) (by unfold undoS; rw [hA]; dsimp only; unfold undoC; rw [if_neg (show ¬ a.1 = 0 by omega), if_neg (show ¬ a.1 = 1 by omega), if_neg (show ¬ a.1 = 2 by omega), if_neg (show ¬ a.1 = 3 by omega), if_neg (show ¬ a.1 = 4 by omega), if_neg (show ¬ a.1 = 5 by omega), if_pos hk]; exact ⟨rfl, ⟨m0, m1, m2, m3, m4, m5, m6, m7, m8.trans (congrArg nI modC_len.symm), m9.tx ha2 hq2, m10, rfl, m12.2, m13, m14, m15, m16, m17, m18, m19, m20, m21, m22⟩⟩) hW
    · refine lv_eqi (show nI a.1 = 7 from by rw [hk]; rfl) ?_
      have ha2 := hv.2.2.2.2.2.2.2 (by omega)
      refine lv_tableIn (tgt := 179) hx hb dX4_undo_43 (by decide) (by decide) rfl rfl ?_
      refine lv_aload_n hx hb dX4_undo_179 rfl (lv_at hl 1 rfl) ?_
      refine gM0_grantDay hF hW q1119 dX4_undo_180 ?_
      refine lv_iload_n hx hb dX4_undo_183 rfl (lv_at hl 0 rfl) ?_
      refine lv_iconst (v := (-1)) hx hb dX4_undo_184 (by decide) ?_
      refine sM15 hF hW (j := a.2.1) (rfl) (by omega) dX4_undo_185 (fun H locs hW => ?_)
      have hW : pM G (MWl G ad (xa (xi (xi y 0 0) 10 (nI as.length)) 9 (va_up (y.2.1 9) a.2.1 (-1))) ++ W0) s _ _ := hW
      refine lv_goto (tgt := 196) hx hb dX4_undo_186 (by decide) ?_
      refine lv_iconst (v := 1) hx hb dX4_undo_196 (by decide) ?_
      exact re_i hF hRt hLk hQ (by omega) (by omega) dX4_undo_197 (xa (xi (xi y 0 0) 10 (nI as.length)) 9 (va_up (y.2.1 9) a.2.1 (-1))) (by unfold undoS; rw [hA]; dsimp only; unfold undoC; rw [if_neg (show ¬ a.1 = 0 by omega), if_neg (show ¬ a.1 = 1 by omega), if_neg (show ¬ a.1 = 2 by omega), if_neg (show ¬ a.1 = 3 by omega), if_neg (show ¬ a.1 = 4 by omega), if_neg (show ¬ a.1 = 5 by omega), if_neg (show ¬ a.1 = 6 by omega), if_pos hk]; exact ⟨rfl, ⟨m0, m1, m2, m3, m4, m5, m6, m7, m8.trans (congrArg nI modC_len.symm), ClaR.gr (g := none) m9 ha2, m10, rfl, m12.2, m13, m14, m15, m16, m17, m18, m19, m20, m21, m22⟩⟩) hW
    · refine lv_eqi (show nI a.1 = 8 from by rw [hk]; rfl) ?_
      have ha2 := hv.2.2.2.2.2.2.2 (by omega)
      refine lv_tableOut (tgt := 189) hx hb dX4_undo_43 (by decide) rfl ?_
      refine lv_aload_n hx hb dX4_undo_189 rfl (lv_at hl 1 rfl) ?_
      refine gM0_dropDay hF hW q1120 dX4_undo_190 ?_
      refine lv_iload_n hx hb dX4_undo_193 rfl (lv_at hl 0 rfl) ?_
      refine lv_iconst (v := (-1)) hx hb dX4_undo_194 (by decide) ?_
      refine sM16 hF hW (j := a.2.1) (rfl) (by omega) dX4_undo_195 (fun H locs hW => ?_)
      have hW : pM G (MWl G ad (xa (xi (xi y 0 0) 10 (nI as.length)) 10 (va_up (y.2.1 10) a.2.1 (-1))) ++ W0) s _ _ := hW
      refine lv_iconst (v := 1) hx hb dX4_undo_196 (by decide) ?_
      exact re_i hF hRt hLk hQ (by omega) (by omega) dX4_undo_197 (xa (xi (xi y 0 0) 10 (nI as.length)) 10 (va_up (y.2.1 10) a.2.1 (-1))) (by unfold undoS; rw [hA]; dsimp only; unfold undoC; rw [if_neg (show ¬ a.1 = 0 by omega), if_neg (show ¬ a.1 = 1 by omega), if_neg (show ¬ a.1 = 2 by omega), if_neg (show ¬ a.1 = 3 by omega), if_neg (show ¬ a.1 = 4 by omega), if_neg (show ¬ a.1 = 5 by omega), if_neg (show ¬ a.1 = 6 by omega), if_neg (show ¬ a.1 = 7 by omega)]; exact ⟨rfl, ⟨m0, m1, m2, m3, m4, m5, m6, m7, m8.trans (congrArg nI modC_len.symm), ClaR.dr (g := none) m9 ha2, m10, rfl, m12.2, m13, m14, m15, m16, m17, m18, m19, m20, m21, m22⟩⟩) hW
