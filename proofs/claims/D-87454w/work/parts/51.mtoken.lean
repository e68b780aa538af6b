/-! the model's tokens -/
theorem encN_app (w : List Nat) (c : Nat) : encN (w ++ [c]) = 32 * encN w + (c - 96) := by
  unfold encN
  rw [List.foldl_append]
  rfl
theorem enc_step {a c : Nat} (h1 : 97 ≤ c) (h2 : c ≤ 122) : (32 : Int64) * lN a + ((nI c - 97 + 1).toInt64) = lN (32 * a + (c - 96)) := by
  have e : nI c - 97 + 1 = nI (c - 96) := by
    rw [show (97 : Int32) = nI 97 from rfl, pk_sub h1, nI_1]
    congr 1
    omega
  rw [e, nI_l (by omega), show (32 : Int64) = lN 32 from rfl, lN_mul, lN_add]
theorem rng_app (g : Nat → Nat) (m : Nat) : (List.range (m + 1)).map g = (List.range m).map g ++ [g m] := by
  rw [List.range_succ, List.map_append]
  rfl

set_option maxRecDepth 100000 in
set_option maxHeartbeats 16000000 in
theorem mX4_next (l : Launch) (G : pG) (ad : Nat → Nat) (x : XV) (T : va_W) (v : Nat → Int32) (lt0 : Int64) (e0 n : Nat) (hn : n ≤ 300) (hsz : v 12 = nI n) (he : v 13 = nI e0) (hen : e0 ≤ n) : Met l yX4_next (ws_ yX4_next cX4_next 3 none) ({ frames := 1, cells := 0, slots := 0, locals := 21 } : Room) (va_Pc [.ref (ad 0)] (fun U => pW G (MWl G ad (mdx x v lt0) ++ T) U)) (va_Qv (fun (u : MS) => u.1 12 = nI n ∧ (tkK (x.2.1 13) n e0 ≠ 1 → u.1 13 = nI (tkE (x.2.1 13) n e0)) ∧ u.1 14 = nI (msort (tkK (x.2.1 13) n e0)) ∧ u.1 15 = nI (skA (x.2.1 13) n e0) ∧ u.1 16 = msign (tkK (x.2.1 13) n e0) ∧ (tkK (x.2.1 13) n e0 = 2 → u.2 = encL (tkW (x.2.1 13) n e0))) (fun (u : MS) t9 => pW G (MWl G ad (mdx x u.1 u.2) ++ T) t9) (pA G)) 0 0 (pA G) := by
  refine mw (by decide) (Nat.le_of_ble_eq_true rfl) ?_
  intro pp ee R s m below meth c ls Q hF hRt hLk hnm hR hQ hW hl
  have hx := hF.1
  have hb := hF.2.1
  have hts := hF.2.2.2.2
  have hR1 : R.frames = 1 := by rw [hR]
  have hR2 : R.cells = 0 := by rw [hR]
  have hR3 : R.slots = 0 := by rw [hR]
  have hR4 : R.locals = 21 := by rw [hR]
  have hl : lv_has ls 3 [(0, .ref (ad 0))] := hl
  have hW : pM G (MWl G ad (mdx x v lt0) ++ T) s s.heap [] := hW
  have hW : pM G (MWl G ad (xi (mdx x v lt0) 13 (v 13)) ++ T) s _ _ := hW
  rw [he] at hW
  have loop_0 : ∀ (nn : Nat) (k : Nat) (H : Heap) (locs : List Loc) (ls : Array Slot), n - k < nn → (e0 ≤ k ∧ k ≤ n) → (skA (x.2.1 13) n e0 = skA (x.2.1 13) n k) → pM G (MWl G ad (xi (mdx x v lt0) 13 (nI k)) ++ T) s H locs → lv_has ls 3 [(0, .ref (ad 0))] → W pp l ee R s m ([.ref (ad 0)] : List Value).toArray below meth c H locs 0 0 Q (F0 m 0 ls []) := by
    intro nn
    induction nn with
    | zero => intro k H locs ls hm; exact absurd hm (Nat.not_lt_zero _)
    | succ nn ih =>
      intro k H locs ls hm hk hsk hW hl
      refine lv_aload_n hx hb dX4_next_0 rfl (lv_at hl 0 rfl) ?_
      refine lv_aload_n hx hb dX4_next_1 rfl (lv_at hl 0 rfl) ?_
      refine gM0_at hF hW q1129 (v := nI k) (rfl) dX4_next_2 ?_
      refine cl_i (ru_V (As := [.int (nI k)]) (rest := []) hF (mX4_byteAt l G ad (xi (mdx x v lt0) 13 (nI k)) T k n hn hsz (by omega)) (cwV 1 hts (lw_V q1271 q1273 qs33 q66 q1274) rfl rfl rfl (by decide +kernel) ⟨lb hR1 rfl, lb hR4 rfl⟩) hW (List.mem_of_getElem? (i := 0) rfl) (ci := 20) rfl rfl rfl hl.1 rfl (lv_room (Nat.le_of_ble_eq_true rfl)) dX4_next_5 ⟨by omega, by omega⟩) hW (fun r_1 u_2 H locs h_3 hW => ?_)
      obtain rfl : r_1 = seeV (x.2.1 13) n k := h_3
      have hW : pM G (MWl G ad (xi (mdx x v lt0) 13 (nI k)) ++ T) s _ _ := hW
      refine lv_bipush (v := 32) hx hb dX4_next_8 (by decide) ?_
      refine lv_icmp_ne (tgt := 26) hx hb dX4_next_10 (by decide) (fun c_10 => ?_) (fun c_10 => ?_)
      · have hnsp : ¬ (k < n ∧ cod ((x.2.1 13) k) = 32) := fun z => c_10 ((seeV_eq (c := 32) (by omega)).mpr z)
        have hA : skA (x.2.1 13) n e0 = k := hsk.trans (skA_stop hnsp)
        refine lv_aload_n hx hb dX4_next_26 rfl (lv_at hl 0 rfl) ?_
        refine lv_aload_n hx hb dX4_next_27 rfl (lv_at hl 0 rfl) ?_
        refine gM0_at hF hW q1129 (v := nI k) (rfl) dX4_next_28 ?_
        refine pM0_place hF hW q1131 dX4_next_31 (fun H locs hW => ?_)
        have hW : pM G (MWl G ad (xi (xi (mdx x v lt0) 13 (nI k)) 15 (nI k)) ++ T) s _ _ := hW
        refine lv_aload_n hx hb dX4_next_34 rfl (lv_at hl 0 rfl) ?_
        refine lv_iconst (v := 0) hx hb dX4_next_35 (by decide) ?_
        refine pM0_sort hF hW q1130 dX4_next_36 (fun H locs hW => ?_)
        have hW : pM G (MWl G ad (xi (xi (xi (mdx x v lt0) 13 (nI k)) 14 0) 15 (nI k)) ++ T) s _ _ := hW
        refine lv_aload_n hx hb dX4_next_39 rfl (lv_at hl 0 rfl) ?_
        refine lv_iconst (v := 0) hx hb dX4_next_40 (by decide) ?_
        refine pM0_sign hF hW q1132 dX4_next_41 (fun H locs hW => ?_)
        have hW : pM G (MWl G ad (xi (xi (xi (xi (mdx x v lt0) 13 (nI k)) 14 0) 15 (nI k)) 16 0) ++ T) s _ _ := hW
        refine lv_aload_n hx hb dX4_next_44 rfl (lv_at hl 0 rfl) ?_
        refine lv_aload_n hx hb dX4_next_45 rfl (lv_at hl 0 rfl) ?_
        refine gM0_at hF hW q1129 (v := nI k) (rfl) dX4_next_46 ?_
        refine cl_i (ru_V (As := [.int (nI k)]) (rest := []) hF (mX4_byteAt l G ad (xi (xi (xi (xi (mdx x v lt0) 13 (nI k)) 14 0) 15 (nI k)) 16 0) T k n hn hsz (by omega)) (cwV 1 hts (lw_V q1271 q1273 qs33 q66 q1274) rfl rfl rfl (by decide +kernel) ⟨lb hR1 rfl, lb hR4 rfl⟩) hW (List.mem_of_getElem? (i := 0) rfl) (ci := 20) rfl rfl rfl hl.1 rfl (lv_room (Nat.le_of_ble_eq_true rfl)) dX4_next_49 ⟨by omega, by omega⟩) hW (fun r_4 u_5 H locs h_6 hW => ?_)
        obtain rfl : r_4 = seeV (x.2.1 13) n k := h_6
        have hW : pM G (MWl G ad (xi (xi (xi (xi (mdx x v lt0) 13 (nI k)) 14 0) 15 (nI k)) 16 0) ++ T) s _ _ := hW
        refine lv_istore_n (lv' := [(1, .int (seeV (x.2.1 13) n k)), (0, .ref (ad 0))]) hx hb dX4_next_52 rfl hl (by decide) rfl (fun ls hl => ?_)
        refine lv_iconst (v := 0) hx hb dX4_next_53 (by decide) ?_
        refine lv_eqi (show 0 = nI (k - k) from by rw [Nat.sub_self]; rfl) ?_
        refine lv_istore_n (lv' := [(2, .int (nI (k - k))), (1, .int (seeV (x.2.1 13) n k)), (0, .ref (ad 0))]) hx hb dX4_next_54 rfl hl (by decide) rfl (fun ls hl => ?_)
        refine lv_iload_n hx hb dX4_next_55 rfl (lv_at hl 1 rfl) ?_
        refine lv_iconst (v := (-1)) hx hb dX4_next_56 (by decide) ?_
        refine lv_icmp_ne (tgt := 68) hx hb dX4_next_57 (by decide) (fun c_57 => ?_) (fun c_57 => ?_)
        · have hkn : k < n := Decidable.not_not.mp (fun z => c_57 (seeV_m1.mpr z))
          refine lv_iload_n hx hb dX4_next_68 rfl (lv_at hl 1 rfl) ?_
          refine cl_i (ru_S (As := [.int (seeV (x.2.1 13) n k)]) (rest := []) hF (mX4_isLetter l G (MWl G ad (xi (xi (xi (xi (mdx x v lt0) 13 (nI k)) 14 0) 15 (nI k)) 16 0) ++ T) (seeV (x.2.1 13) n k)) (va_cwS 1 hts (lw_S q1275 q1276 q66 q1277) rfl rfl rfl (by decide +kernel) ⟨lb hR1 rfl, lb hR4 rfl⟩) hW rfl rfl hl.1 rfl (lv_room (Nat.le_of_ble_eq_true rfl)) dX4_next_69 ⟨by omega, by omega⟩) hW (fun r_7 u_8 H locs h_9 hW => ?_)
          have hW : pM G (MWl G ad (xi (xi (xi (xi (mdx x v lt0) 13 (nI k)) 14 0) 15 (nI k)) 16 0) ++ T) s _ _ := hW
          rcases h_9 with ⟨rfl, b_69⟩ | ⟨rfl, b_69⟩
          · refine lv_if_eq (tgt := 157) hx hb dX4_next_72 (by decide) (fun c_72 => absurd c_72 (by decide)) (fun c_72 => ?_)
            have hL := (seeV_L.mp b_69).2
            refine lv_aload_n hx hb dX4_next_75 rfl (lv_at hl 2 rfl) ?_
            refine lv_lconst (v := 0) hx hb dX4_next_76 (by decide) ?_
            refine pM0_letters hF hW q1133 dX4_next_77 (fun H locs hW => ?_)
            have hW : pM G (MWl G ad (xl (xi (xi (xi (xi (mdx x v lt0) 13 (nI k)) 14 0) 15 (nI k)) 16 0) 0 0) ++ T) s _ _ := hW
            have loop_80 : ∀ (nn : Nat) (j : Nat) (L : Int64) (H : Heap) (locs : List Loc) (ls : Array Slot), n - j < nn → (k ≤ j ∧ j ≤ n) → (wnA (x.2.1 13) n k = wnA (x.2.1 13) n j) → (∀ q, k ≤ q → q < j → q < n ∧ isL (cod ((x.2.1 13) q))) → (L = lN (encN ((List.range (min (j - k) 10)).map (fun i => cod ((x.2.1 13) (k + i)))))) → pM G (MWl G ad (xl (xi (xi (xi (xi (mdx x v lt0) 13 (nI j)) 14 0) 15 (nI k)) 16 0) 0 L) ++ T) s H locs → lv_has ls 3 [(0, .ref (ad 0)), (1, .int (seeV (x.2.1 13) n k)), (2, .int (nI (j - k)))] → W pp l ee R s m ([.ref (ad 0)] : List Value).toArray below meth c H locs (((0 + 0) + 0) + 0) (((0 + 0) + 0) + 0) Q (F0 m 80 ls []) := by
              intro nn
              induction nn with
              | zero => intro j L H locs ls hm; exact absurd hm (Nat.not_lt_zero _)
              | succ nn ih =>
                intro j L H locs ls hm hj hwn hall hlt hW hl
                refine lv_aload_n hx hb dX4_next_80 rfl (lv_at hl 0 rfl) ?_
                refine lv_aload_n hx hb dX4_next_81 rfl (lv_at hl 0 rfl) ?_
                refine gM0_at hF hW q1129 (v := nI j) (rfl) dX4_next_82 ?_
                refine cl_i (ru_V (As := [.int (nI j)]) (rest := []) hF (mX4_byteAt l G ad (xl (xi (xi (xi (xi (mdx x v lt0) 13 (nI j)) 14 0) 15 (nI k)) 16 0) 0 L) T j n hn hsz (by omega)) (cwV 1 hts (lw_V q1271 q1273 qs33 q66 q1274) rfl rfl rfl (by decide +kernel) ⟨lb hR1 rfl, lb hR4 rfl⟩) hW (List.mem_of_getElem? (i := 0) rfl) (ci := 20) rfl rfl rfl hl.1 rfl (lv_room (Nat.le_of_ble_eq_true rfl)) dX4_next_85 ⟨by omega, by omega⟩) hW (fun r_10 u_11 H locs h_12 hW => ?_)
                obtain rfl : r_10 = seeV (x.2.1 13) n j := h_12
                have hW : pM G (MWl G ad (xl (xi (xi (xi (xi (mdx x v lt0) 13 (nI j)) 14 0) 15 (nI k)) 16 0) 0 L) ++ T) s _ _ := hW
                refine cl_i (ru_S (As := [.int (seeV (x.2.1 13) n j)]) (rest := []) hF (mX4_isLetter l G (MWl G ad (xl (xi (xi (xi (xi (mdx x v lt0) 13 (nI j)) 14 0) 15 (nI k)) 16 0) 0 L) ++ T) (seeV (x.2.1 13) n j)) (va_cwS 1 hts (lw_S q1275 q1276 q66 q1277) rfl rfl rfl (by decide +kernel) ⟨lb hR1 rfl, lb hR4 rfl⟩) hW rfl rfl hl.1 rfl (lv_room (Nat.le_of_ble_eq_true rfl)) dX4_next_88 ⟨by omega, by omega⟩) hW (fun r_13 u_14 H locs h_15 hW => ?_)
                have hW : pM G (MWl G ad (xl (xi (xi (xi (xi (mdx x v lt0) 13 (nI j)) 14 0) 15 (nI k)) 16 0) 0 L) ++ T) s _ _ := hW
                rcases h_15 with ⟨rfl, b_88⟩ | ⟨rfl, b_88⟩
                · refine lv_if_eq (tgt := 143) hx hb dX4_next_91 (by decide) (fun c_91 => absurd c_91 (by decide)) (fun c_91 => ?_)
                  have hjl := seeV_L.mp b_88
                  have hjl1 := hjl.1
                  refine lv_iload_n hx hb dX4_next_94 rfl (lv_at hl 2 rfl) ?_
                  refine lv_bipush (v := 10) hx hb dX4_next_95 (by decide) ?_
                  refine lv_icmp_ge (tgt := 127) hx hb dX4_next_97 (by decide) (fun c_97 => ?_) (fun c_97 => ?_)
                  · refine lv_iinc (v := nI (j + 1 - k)) (lv' := [(2, .int (nI (j + 1 - k))), (0, .ref (ad 0)), (1, .int (seeV (x.2.1 13) n k))]) hx hb dX4_next_127 hl (k := 2) rfl ((nI_1 _).trans (by rw [show j - k + 1 = j + 1 - k by omega])) (by decide) rfl (fun ls hl => ?_)
                    refine lv_aload_n hx hb dX4_next_130 rfl (lv_at hl 1 rfl) ?_
                    refine lv_dup hx hb dX4_next_131 rfl ?_
                    refine gM0_at hF hW q1129 (v := nI j) (rfl) dX4_next_132 ?_
                    refine lv_iconst (v := 1) hx hb dX4_next_135 (by decide) ?_
                    refine lv_iadd hx hb dX4_next_136 ?_
                    refine lv_eqi (show (nI j) + 1 = nI (j + 1) from nI_add j 1) ?_
                    refine pM0_at hF hW q1129 dX4_next_137 (fun H locs hW => ?_)
                    have hW : pM G (MWl G ad (xl (xi (xi (xi (xi (mdx x v lt0) 13 (nI (j + 1))) 14 0) 15 (nI k)) 16 0) 0 L) ++ T) s _ _ := hW
                    refine lv_goto (tgt := 80) hx hb dX4_next_140 (by decide) ?_
                    exact W.widen (by omega) (by omega) (ih (j + 1) L H locs ls (by omega) (by omega) (hwn.trans (wnA_step hjl)) (fun q h1 h2 => if h : q = j then h ▸ hjl else hall q h1 (by omega)) (by rw [hlt, show min (j - k) 10 = min (j + 1 - k) 10 by have := le_le (a := 10) c_97; omega]) hW (lv_sub hl [1, 2, 0] rfl))
                  · refine lv_aload_n hx hb dX4_next_100 rfl (lv_at hl 0 rfl) ?_
                    refine lv_ldc2 hx hb hF.2.2.2.1 (hts _ q1278) dX4_next_101 ?_
                    refine lv_aload_n hx hb dX4_next_104 rfl (lv_at hl 0 rfl) ?_
                    refine gM0_letters hF hW q1133 (v := L) (rfl) dX4_next_105 ?_
                    refine lv_lmul hx hb dX4_next_108 ?_
                    refine lv_aload_n hx hb dX4_next_109 rfl (lv_at hl 0 rfl) ?_
                    refine lv_aload_n hx hb dX4_next_110 rfl (lv_at hl 0 rfl) ?_
                    refine gM0_at hF hW q1129 (v := nI j) (rfl) dX4_next_111 ?_
                    refine cl_i (ru_V (As := [.int (nI j)]) (rest := [.long (32 * L), .ref (ad 0)]) hF (mX4_byteAt l G ad (xl (xi (xi (xi (xi (mdx x v lt0) 13 (nI j)) 14 0) 15 (nI k)) 16 0) 0 L) T j n hn hsz (by omega)) (cwV 1 hts (lw_V q1271 q1273 qs33 q66 q1274) rfl rfl rfl (by decide +kernel) ⟨lb hR1 rfl, lb hR4 rfl⟩) hW (List.mem_of_getElem? (i := 0) rfl) (ci := 20) rfl rfl rfl hl.1 rfl (lv_room (Nat.le_of_ble_eq_true rfl)) dX4_next_114 ⟨by omega, by omega⟩) hW (fun r_16 u_17 H locs h_18 hW => ?_)
                    obtain rfl : r_16 = seeV (x.2.1 13) n j := h_18
                    have hW : pM G (MWl G ad (xl (xi (xi (xi (xi (mdx x v lt0) 13 (nI j)) 14 0) 15 (nI k)) 16 0) 0 L) ++ T) s _ _ := hW
                    refine lv_bipush (v := 97) hx hb dX4_next_117 (by decide) ?_
                    refine lv_isub hx hb dX4_next_119 ?_
                    refine lv_iconst (v := 1) hx hb dX4_next_120 (by decide) ?_
                    refine lv_iadd hx hb dX4_next_121 ?_
                    refine lv_i2l hx hb dX4_next_122 rfl ?_
                    refine lv_ladd hx hb dX4_next_123 ?_
                    refine pM0_letters hF hW q1133 dX4_next_124 (fun H locs hW => ?_)
                    have hW : pM G (MWl G ad (xl (xi (xi (xi (xi (mdx x v lt0) 13 (nI j)) 14 0) 15 (nI k)) 16 0) 0 ((32 * L) + ((((seeV (x.2.1 13) n j) - 97) + 1).toInt64))) ++ T) s _ _ := hW
                    have hlt10 : j - k < 10 := nle_lt (a := 10) c_97
                    refine lv_iinc (v := nI (j + 1 - k)) (lv' := [(2, .int (nI (j + 1 - k))), (0, .ref (ad 0)), (1, .int (seeV (x.2.1 13) n k))]) hx hb dX4_next_127 hl (k := 2) rfl ((nI_1 _).trans (by rw [show j - k + 1 = j + 1 - k by omega])) (by decide) rfl (fun ls hl => ?_)
                    refine lv_aload_n hx hb dX4_next_130 rfl (lv_at hl 1 rfl) ?_
                    refine lv_dup hx hb dX4_next_131 rfl ?_
                    refine gM0_at hF hW q1129 (v := nI j) (rfl) dX4_next_132 ?_
                    refine lv_iconst (v := 1) hx hb dX4_next_135 (by decide) ?_
                    refine lv_iadd hx hb dX4_next_136 ?_
                    refine lv_eqi (show (nI j) + 1 = nI (j + 1) from nI_add j 1) ?_
                    refine pM0_at hF hW q1129 dX4_next_137 (fun H locs hW => ?_)
                    have hW : pM G (MWl G ad (xl (xi (xi (xi (xi (mdx x v lt0) 13 (nI (j + 1))) 14 0) 15 (nI k)) 16 0) 0 ((32 * L) + ((((seeV (x.2.1 13) n j) - 97) + 1).toInt64))) ++ T) s _ _ := hW
                    refine lv_goto (tgt := 80) hx hb dX4_next_140 (by decide) ?_
                    exact W.widen (by omega) (by omega) (ih (j + 1) ((32 * L) + ((((seeV (x.2.1 13) n j) - 97) + 1).toInt64)) H locs ls (by omega) (by omega) (hwn.trans (wnA_step hjl)) (fun q h1 h2 => if h : q = j then h ▸ hjl else hall q h1 (by omega)) (by rw [hlt, (show seeV (x.2.1 13) n j = nI (cod ((x.2.1 13) j)) from if_pos hjl1), enc_step hjl.2.1 hjl.2.2, show min (j + 1 - k) 10 = min (j - k) 10 + 1 by omega, rng_app, encN_app, show k + min (j - k) 10 = j by omega]) hW (lv_sub hl [1, 2, 0] rfl))
                · refine lv_if_eq (tgt := 143) hx hb dX4_next_91 (by decide) (fun c_91 => ?_) (fun c_91 => absurd c_91 (by decide))
                  have hnj : ¬ (j < n ∧ isL (cod ((x.2.1 13) j))) := fun z => b_88 (seeV_L.mpr z)
                  have hW2 : wnA (x.2.1 13) n k = j := hwn.trans (wnA_stop hnj)
                  refine lv_iload_n hx hb dX4_next_143 rfl (lv_at hl 2 rfl) ?_
                  refine lv_bipush (v := 10) hx hb dX4_next_144 (by decide) ?_
                  refine lv_icmp_gt (tgt := 189) hx hb dX4_next_146 (by decide) (fun c_146 => ?_) (fun c_146 => ?_)
                  · have le10 : 10 < j - k := lt_lt (a := 10) c_146
                    have hK : tkK (x.2.1 13) n e0 = 1 := by unfold tkK; rw [hA, if_pos hkn, if_pos hL, if_neg (by rw [hW2]; omega)]
                    have hE : tkE (x.2.1 13) n e0 = j := by unfold tkE; rw [hA, if_pos hkn, if_pos hL, hW2]
                    exact re_v hF hRt hLk hQ (by omega) (by omega) dX4_next_189 (va_up (va_up (va_up (va_up v 13 (nI j)) 14 0) 15 (nI k)) 16 0, L) (⟨hsz, fun _ => by rw [hE]; rfl, by rw [hK]; rfl, by rw [hA]; rfl, by rw [hK]; rfl, fun z => by rw [hK] at z; exact absurd z (by decide)⟩) hW
                  · refine lv_aload_n hx hb dX4_next_149 rfl (lv_at hl 0 rfl) ?_
                    refine lv_iconst (v := 2) hx hb dX4_next_150 (by decide) ?_
                    refine pM0_sort hF hW q1130 dX4_next_151 (fun H locs hW => ?_)
                    have hW : pM G (MWl G ad (xl (xi (xi (xi (xi (mdx x v lt0) 13 (nI j)) 14 2) 15 (nI k)) 16 0) 0 L) ++ T) s _ _ := hW
                    refine lv_goto (tgt := 189) hx hb dX4_next_154 (by decide) ?_
                    have le10 : j - k ≤ 10 := nlt_le (a := 10) c_146
                    have hK : tkK (x.2.1 13) n e0 = 2 := by unfold tkK; rw [hA, if_pos hkn, if_pos hL, if_pos (by rw [hW2]; exact le10)]
                    have hE : tkE (x.2.1 13) n e0 = j := by unfold tkE; rw [hA, if_pos hkn, if_pos hL, hW2]
                    have hTW : tkW (x.2.1 13) n e0 = (List.range (j - k)).map (fun i => cod ((x.2.1 13) (k + i))) := by unfold tkW; rw [hA, hW2]
                    exact re_v hF hRt hLk hQ (by omega) (by omega) dX4_next_189 (va_up (va_up (va_up (va_up v 13 (nI j)) 14 2) 15 (nI k)) 16 0, L) (⟨hsz, fun _ => by rw [hE]; rfl, by rw [hK]; rfl, by rw [hA]; rfl, by rw [hK]; rfl, fun _ => by rw [hTW]; exact hlt.trans (by rw [show min (j - k) 10 = j - k by omega]; rfl)⟩) hW
            exact loop_80 _ k 0 _ _ _ (Nat.lt_succ_self _) (by omega) (rfl) (fun q h1 h2 => absurd h1 (by omega)) (by rw [show min (k - k) 10 = 0 by omega]; rfl) hW (lv_sub hl [2, 1, 0] rfl)
          · refine lv_if_eq (tgt := 157) hx hb dX4_next_72 (by decide) (fun c_72 => ?_) (fun c_72 => absurd c_72 (by decide))
            have hL : ¬ isL (cod ((x.2.1 13) k)) := fun z => b_69 (seeV_L.mpr ⟨hkn, z⟩)
            refine lv_iload_n hx hb dX4_next_157 rfl (lv_at hl 1 rfl) ?_
            refine lv_bipush (v := 58) hx hb dX4_next_158 (by decide) ?_
            refine lv_icmp_eq (tgt := 169) hx hb dX4_next_160 (by decide) (fun c_160 => ?_) (fun c_160 => ?_)
            · refine lv_aload_n hx hb dX4_next_169 rfl (lv_at hl 2 rfl) ?_
              refine lv_iconst (v := 3) hx hb dX4_next_170 (by decide) ?_
              refine pM0_sort hF hW q1130 dX4_next_171 (fun H locs hW => ?_)
              have hW : pM G (MWl G ad (xi (xi (xi (xi (mdx x v lt0) 13 (nI k)) 14 3) 15 (nI k)) 16 0) ++ T) s _ _ := hW
              refine lv_aload_n hx hb dX4_next_174 rfl (lv_at hl 2 rfl) ?_
              refine lv_iload_n hx hb dX4_next_175 rfl (lv_at hl 1 rfl) ?_
              refine lv_eqi (show seeV (x.2.1 13) n k = 58 from c_160) ?_
              refine pM0_sign hF hW q1132 dX4_next_176 (fun H locs hW => ?_)
              have hW : pM G (MWl G ad (xi (xi (xi (xi (mdx x v lt0) 13 (nI k)) 14 3) 15 (nI k)) 16 58) ++ T) s _ _ := hW
              refine lv_aload_n hx hb dX4_next_179 rfl (lv_at hl 2 rfl) ?_
              refine lv_dup hx hb dX4_next_180 rfl ?_
              refine gM0_at hF hW q1129 (v := nI k) (rfl) dX4_next_181 ?_
              refine lv_iconst (v := 1) hx hb dX4_next_184 (by decide) ?_
              refine lv_iadd hx hb dX4_next_185 ?_
              refine lv_eqi (show (nI k) + 1 = nI (k + 1) from nI_add k 1) ?_
              refine pM0_at hF hW q1129 dX4_next_186 (fun H locs hW => ?_)
              have hW : pM G (MWl G ad (xi (xi (xi (xi (mdx x v lt0) 13 (nI (k + 1))) 14 3) 15 (nI k)) 16 58) ++ T) s _ _ := hW
              have hE : tkE (x.2.1 13) n e0 = k + 1 := by unfold tkE; rw [hA, if_pos hkn, if_neg hL]
              have h58 := ((seeV_eq (c := 58) (by omega)).mp c_160).2
              have hK : tkK (x.2.1 13) n e0 = 58 := by unfold tkK; rw [hA, if_pos hkn, if_neg hL, if_pos h58]
              exact re_v hF hRt hLk hQ (by omega) (by omega) dX4_next_189 (va_up (va_up (va_up (va_up v 13 (nI (k + 1))) 14 3) 15 (nI k)) 16 58, lt0) (⟨hsz, fun _ => by rw [hE]; rfl, by rw [hK]; rfl, by rw [hA]; rfl, by rw [hK]; rfl, fun z => by rw [hK] at z; exact absurd z (by decide)⟩) hW
            · refine lv_iload_n hx hb dX4_next_163 rfl (lv_at hl 1 rfl) ?_
              refine lv_bipush (v := 59) hx hb dX4_next_164 (by decide) ?_
              refine lv_icmp_ne (tgt := 189) hx hb dX4_next_166 (by decide) (fun c_166 => ?_) (fun c_166 => ?_)
              · have h58 : ¬ cod ((x.2.1 13) k) = 58 := fun z => c_160 ((seeV_eq (c := 58) (by omega)).mpr ⟨hkn, z⟩)
                have h59 : ¬ cod ((x.2.1 13) k) = 59 := fun z => c_166 ((seeV_eq (c := 59) (by omega)).mpr ⟨hkn, z⟩)
                have hK : tkK (x.2.1 13) n e0 = 1 := by unfold tkK; rw [hA, if_pos hkn, if_neg hL, if_neg h58, if_neg h59]
                exact re_v hF hRt hLk hQ (by omega) (by omega) dX4_next_189 (va_up (va_up (va_up (va_up v 13 (nI k)) 14 0) 15 (nI k)) 16 0, lt0) (⟨hsz, fun z => absurd hK z, by rw [hK]; rfl, by rw [hA]; rfl, by rw [hK]; rfl, fun z => by rw [hK] at z; exact absurd z (by decide)⟩) hW
              · refine lv_aload_n hx hb dX4_next_169 rfl (lv_at hl 2 rfl) ?_
                refine lv_iconst (v := 3) hx hb dX4_next_170 (by decide) ?_
                refine pM0_sort hF hW q1130 dX4_next_171 (fun H locs hW => ?_)
                have hW : pM G (MWl G ad (xi (xi (xi (xi (mdx x v lt0) 13 (nI k)) 14 3) 15 (nI k)) 16 0) ++ T) s _ _ := hW
                refine lv_aload_n hx hb dX4_next_174 rfl (lv_at hl 2 rfl) ?_
                refine lv_iload_n hx hb dX4_next_175 rfl (lv_at hl 1 rfl) ?_
                refine lv_eqi (show seeV (x.2.1 13) n k = 59 from c_166) ?_
                refine pM0_sign hF hW q1132 dX4_next_176 (fun H locs hW => ?_)
                have hW : pM G (MWl G ad (xi (xi (xi (xi (mdx x v lt0) 13 (nI k)) 14 3) 15 (nI k)) 16 59) ++ T) s _ _ := hW
                refine lv_aload_n hx hb dX4_next_179 rfl (lv_at hl 2 rfl) ?_
                refine lv_dup hx hb dX4_next_180 rfl ?_
                refine gM0_at hF hW q1129 (v := nI k) (rfl) dX4_next_181 ?_
                refine lv_iconst (v := 1) hx hb dX4_next_184 (by decide) ?_
                refine lv_iadd hx hb dX4_next_185 ?_
                refine lv_eqi (show (nI k) + 1 = nI (k + 1) from nI_add k 1) ?_
                refine pM0_at hF hW q1129 dX4_next_186 (fun H locs hW => ?_)
                have hW : pM G (MWl G ad (xi (xi (xi (xi (mdx x v lt0) 13 (nI (k + 1))) 14 3) 15 (nI k)) 16 59) ++ T) s _ _ := hW
                have h58 : ¬ cod ((x.2.1 13) k) = 58 := fun z => c_160 ((seeV_eq (c := 58) (by omega)).mpr ⟨hkn, z⟩)
                have hE : tkE (x.2.1 13) n e0 = k + 1 := by unfold tkE; rw [hA, if_pos hkn, if_neg hL]
                have h59 := ((seeV_eq (c := 59) (by omega)).mp c_166).2
                have hK : tkK (x.2.1 13) n e0 = 59 := by unfold tkK; rw [hA, if_pos hkn, if_neg hL, if_neg h58, if_pos h59]
                exact re_v hF hRt hLk hQ (by omega) (by omega) dX4_next_189 (va_up (va_up (va_up (va_up v 13 (nI (k + 1))) 14 3) 15 (nI k)) 16 59, lt0) (⟨hsz, fun _ => by rw [hE]; rfl, by rw [hK]; rfl, by rw [hA]; rfl, by rw [hK]; rfl, fun z => by rw [hK] at z; exact absurd z (by decide)⟩) hW
        · have hkn : ¬ k < n := seeV_m1.mp c_57
          refine lv_aload_n hx hb dX4_next_60 rfl (lv_at hl 2 rfl) ?_
          refine lv_iconst (v := 1) hx hb dX4_next_61 (by decide) ?_
          refine pM0_sort hF hW q1130 dX4_next_62 (fun H locs hW => ?_)
          have hW : pM G (MWl G ad (xi (xi (xi (xi (mdx x v lt0) 13 (nI k)) 14 1) 15 (nI k)) 16 0) ++ T) s _ _ := hW
          refine lv_goto (tgt := 189) hx hb dX4_next_65 (by decide) ?_
          have hK : tkK (x.2.1 13) n e0 = 0 := by unfold tkK; rw [hA, if_neg hkn]
          have hE : tkE (x.2.1 13) n e0 = k := by unfold tkE; rw [hA, if_neg hkn]
          exact re_v hF hRt hLk hQ (by omega) (by omega) dX4_next_189 (va_up (va_up (va_up (va_up v 13 (nI k)) 14 1) 15 (nI k)) 16 0, lt0) (⟨hsz, fun _ => by rw [hE]; rfl, by rw [hK]; rfl, by rw [hA]; rfl, by rw [hK]; rfl, fun z => by rw [hK] at z; exact absurd z (by decide)⟩) hW
      · have hsp := (seeV_eq (c := 32) (by omega)).mp c_10
        refine lv_aload_n hx hb dX4_next_13 rfl (lv_at hl 0 rfl) ?_
        refine lv_dup hx hb dX4_next_14 rfl ?_
        refine gM0_at hF hW q1129 (v := nI k) (rfl) dX4_next_15 ?_
        refine lv_iconst (v := 1) hx hb dX4_next_18 (by decide) ?_
        refine lv_iadd hx hb dX4_next_19 ?_
        refine lv_eqi (show (nI k) + 1 = nI (k + 1) from nI_add k 1) ?_
        refine pM0_at hF hW q1129 dX4_next_20 (fun H locs hW => ?_)
        have hW : pM G (MWl G ad (xi (mdx x v lt0) 13 (nI (k + 1))) ++ T) s _ _ := hW
        refine lv_goto (tgt := 0) hx hb dX4_next_23 (by decide) ?_
        exact W.widen (by omega) (by omega) (ih (k + 1) H locs ls (by omega) (by omega) (hsk.trans (skA_step hsp)) hW (lv_sub hl [0] rfl))
  exact loop_0 _ e0 _ _ _ (Nat.lt_succ_self _) (by omega) (rfl) hW (lv_sub hl [0] rfl)
