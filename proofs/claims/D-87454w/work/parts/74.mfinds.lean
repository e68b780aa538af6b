/-! the model's finds, old -/
theorem way_r {c : Co} {a b : Tx} {A : List (Option Nat)} {S : List (List (Option Nat))} {f9 fi2 g : Nat → Int32} (h : waysA c a b = A :: S) (h1 : ∀ j, j < a.1.length → f9 j = fi2 j) (h2 : ∀ j, j < a.1.length → fi2 j = fiF 0 g (waysA c a b) j) : nI a.1.length = nI (wayL (waysA c a b)).length ∧ LstR f9 (wayL (waysA c a b)) := by
  obtain ⟨w1, w2, -⟩ := way_1 h
  have hl : (wayL (waysA c a b)).length = a.1.length := by
    rw [h]
    show (A.map (fun o => o.getD 0)).length = _
    rw [List.length_map, w1]
  refine ⟨by rw [hl], fun j hj => ?_⟩
  rw [hl] at hj
  rw [h1 j hj, h2 j hj, ← w2 j hj]
  unfold fiF
  rw [if_pos rfl, h]
theorem find_y {f : Nat → Bool} {n p : Nat} (hp : p < n) (h : f p = true) (hn : ∀ j, j < p → f j = false) : (List.range n).find? f = some p := by
  rw [List.find?_range_eq_some]
  exact ⟨h, List.mem_range.mpr hp, fun j hj => by rw [hn j hj]; rfl⟩
theorem find_n {f : Nat → Bool} {n : Nat} (hn : ∀ j, j < n → f j = false) : (List.range n).find? f = none := by
  rw [List.find?_eq_none]
  intro j hj
  rw [hn j (List.mem_range.mp hj)]
  decide
theorem dayF_le {c : Co} {t : Tx} (hI : InvC c) : ∀ g f, f < (cF c).length → dayF c t g f ≤ 20000
  | 0, f, hf => (hI.2.2.1.2 f hf).2.1
  | g + 1, f, hf => by
    cases h : ((cF c).getD f dF).2.2 with
    | none => rw [dayF_n h]; exact (hI.2.2.1.2 f hf).2.1
    | some j =>
      cases hd : disA c ((cF c).getD j dF).1 t with
      | false => rw [dayF_f h hd]; exact (hI.2.2.1.2 f hf).2.1
      | true => rw [dayF_y h hd]; exact dayF_le hI g j (Nat.lt_trans ((hI.2.2.1.2 f hf).2.2 j h) hf)
theorem day_le {c : Co} {k : Nat} (hI : InvC c) (hk : k < (cC c).length) : dayOf c k ≤ 20000 := dayF_le hI _ _ (hI.2.2.2.2.1.2 k hk).2.1
theorem ask_w {S : AS} {a0 a1 w : Int32} (h : askS S a0 a1 = .inl w) : w = 1 ∨ w = 2 := by
  unfold askS at h
  cases h1 : ix a0 (cC S.1).length with
  | none => rw [h1] at h; cases h; exact Or.inl rfl
  | some k =>
    rw [h1] at h
    dsimp only at h
    cases h2 : ixn a1 20000 with
    | none => rw [h2] at h; cases h; exact Or.inr rfl
    | some d =>
      rw [h2] at h
      dsimp only at h
      by_cases h3 : d < ((cC S.1).getD k dC).2.2.2.1
      · rw [if_pos h3] at h; cases h; exact Or.inl rfl
      · rw [if_neg h3] at h; cases h
theorem ask_r {S : AS} {a0 a1 : Int32} {q : Nat × Nat} (h : askS S a0 a1 = .inr q) : ix a0 (cC S.1).length = some q.1 ∧ ixn a1 20000 = some q.2 ∧ ((cC S.1).getD q.1 dC).2.2.2.1 ≤ q.2 := by
  unfold askS at h
  cases h1 : ix a0 (cC S.1).length with
  | none => rw [h1] at h; cases h
  | some k =>
    rw [h1] at h
    dsimp only at h
    cases h2 : ixn a1 20000 with
    | none => rw [h2] at h; cases h
    | some d =>
      rw [h2] at h
      dsimp only at h
      by_cases h3 : d < ((cC S.1).getD k dC).2.2.2.1
      · rw [if_pos h3] at h; cases h
      · rw [if_neg h3] at h; cases h; exact ⟨rfl, rfl, Nat.le_of_not_lt h3⟩

set_option maxRecDepth 100000 in
set_option maxHeartbeats 16000000 in
theorem mX4_finds (l : Launch) (G : pG) (ad : Nat → Nat) (y : XV) (W0 T : va_W) (hT : ∀ q ∈ T, q ∈ W0) (S : AS) (n9 : Nat) (hS : SOk n9 S) (hn9 : n9 ≤ 64) (hMR : MR G T y S) (a0 a1 a2 : Int32) : Met l yX4_finds (ws_ yX4_finds cX4_finds 7 (some .int)) ({ frames := 21, cells := 0, slots := 0, locals := 1023 } : Room) (va_Pc [.ref (ad 0), .int a0, .int a1, .int a2] (fun U => pW G (MWl G ad y ++ W0) U)) (va_Qi (fun r (u : XV) => r = (findsS S a0 a1 a2).2 ∧ MR G T u (findsS S a0 a1 a2).1) (fun (u : XV) t9 => pW G (MWl G ad u ++ W0) t9) (pA G)) 0 0 (pA G) := by
  refine mw (by decide) (Nat.le_of_ble_eq_true rfl) ?_
  intro pp ee R s m below meth c ls Q hF hRt hLk hnm hR hQ hW hl
  have hx := hF.1
  have hb := hF.2.1
  have hts := hF.2.2.2.2
  have hR1 : R.frames = 21 := by rw [hR]
  have hR2 : R.cells = 0 := by rw [hR]
  have hR3 : R.slots = 0 := by rw [hR]
  have hR4 : R.locals = 1023 := by rw [hR]
  have hl : lv_has ls 7 [(0, .ref (ad 0)), (1, .int a0), (2, .int a1), (3, .int a2)] := hl
  have hW : pM G (MWl G ad y ++ W0) s s.heap [] := hW
  obtain ⟨m0, m1, m2, m3, m4, m5, m6, m7, m8, m9, m10, m11, m12, m13, m14, m15, m16, m17, m18, m19, m20, m21, m22⟩ := hMR
  have hI := hS.inv
  have b0 := hI.1.1
  have b1 := hI.2.1.1
  have b2 := hI.2.2.1.1
  have b3 := hI.2.2.2.1.1
  have b4 := hI.2.2.2.2.1.1
  have b5 := hI.2.2.2.2.2
  have b6 := hS.2.1
  have b7 := hS.2.2.1
  have b8 := hS.2.2.2.1
  have b9 := hS.2.2.2.2.1
  cases hi0 : ix a0 (cC S.1).length with
  | none =>
    by_cases z0 : a1 = 0
    · subst z0
      cases hi2 : ix a2 (cP S.1).length with
      | none =>
        refine lv_aload_n hx hb dX4_finds_0 rfl (lv_at hl 0 rfl) ?_
        refine lv_iconst (v := 0) hx hb dX4_finds_1 (by decide) ?_
        refine pM0_thrown hF hW q1095 dX4_finds_2 (fun H locs hW => ?_)
        have hW : pM G (MWl G ad (xi y 0 0) ++ W0) s _ _ := hW
        refine lv_iload_n hx hb dX4_finds_5 rfl (lv_at hl 2 rfl) ?_
        refine lv_if_ne (tgt := 30) hx hb dX4_finds_6 (by decide) (fun c_6 => absurd c_6 (by decide)) (fun c_6 => ?_)
        refine lv_iload_n hx hb dX4_finds_9 rfl (lv_at hl 3 rfl) ?_
        refine lv_if_lt (tgt := 30) hx hb dX4_finds_10 (by decide) (fun c_10 => ?_) (fun c_10 => ?_)
        · refine lv_iload_n hx hb dX4_finds_30 rfl (lv_at hl 2 rfl) ?_
          refine lv_iconst (v := 1) hx hb dX4_finds_31 (by decide) ?_
          refine lv_icmp_ne (tgt := 52) hx hb dX4_finds_32 (by decide) (fun c_32 => ?_) (fun c_32 => absurd c_32 (by decide))
          refine lv_iload_n hx hb dX4_finds_52 rfl (lv_at hl 2 rfl) ?_
          refine lv_iconst (v := 2) hx hb dX4_finds_53 (by decide) ?_
          refine lv_icmp_ne (tgt := 78) hx hb dX4_finds_54 (by decide) (fun c_54 => ?_) (fun c_54 => absurd c_54 (by decide))
          refine lv_null hx hb dX4_finds_78 ?_
          refine lv_astoreN (lv' := [(4, .null), (0, .ref (ad 0)), (1, .int a0), (2, .int 0), (3, .int a2)]) hx hb dX4_finds_79 hl (by decide) rfl (fun ls hl => ?_)
          refine lv_aload_n hx hb dX4_finds_81 rfl (lv_at hl 1 rfl) ?_
          refine lv_iload_n hx hb dX4_finds_82 rfl (lv_at hl 2 rfl) ?_
          refine cl_i (ru_V (As := [.int a0]) (rest := []) hF (mX4_isClaim l G ad (xi y 0 0) W0 a0) (cwV 1 hts (lw_V q1354 q1356 qs45 q66 q1357) rfl rfl rfl (by decide +kernel) ⟨lb hR1 rfl, lb hR4 rfl⟩) hW (List.mem_of_getElem? (i := 0) rfl) (ci := 20) rfl rfl rfl hl.1 rfl (lv_room (Nat.le_of_ble_eq_true rfl)) dX4_finds_83 ⟨by omega, by omega⟩) hW (fun r_ u_ H locs h_ hW => ?_)
          have hW : pM G (MWl G ad (xi y 0 0) ++ W0) s _ _ := hW
          rcases h_ with ⟨rfl, h_⟩ | ⟨rfl, h_⟩
          · exact absurd h_ (fun z => ix_no hi0 (by rw [show (xi y 0 0).1 7 = nI (cC S.1).length from m8] at z; exact z))
          · refine lv_if_eq (tgt := 94) hx hb dX4_finds_86 (by decide) (fun c_86 => ?_) (fun c_86 => absurd c_86 (by decide))
            refine lv_aload_n hx hb dX4_finds_94 rfl (lv_at hl 1 rfl) ?_
            refine lv_iconst (v := 1) hx hb dX4_finds_95 (by decide) ?_
            refine cl_i (ru_V (As := [.int 1]) (rest := []) hF (mX4_refused l G ad (xi y 0 0) W0 1) (cwV 1 hts (lw_V q1255 q1257 qs29 q66 q1258) rfl rfl rfl (by decide +kernel) ⟨lb hR1 rfl, lb hR4 rfl⟩) hW (List.mem_of_getElem? (i := 0) rfl) (ci := 20) rfl rfl rfl hl.1 rfl (lv_room (Nat.le_of_ble_eq_true rfl)) dX4_finds_96 ⟨by omega, by omega⟩) hW (fun r_1 u_2 H locs h_3 hW => ?_)
            obtain ⟨rfl, rfl⟩ : r_1 = (-1) ∧ u_2 = _ := h_3
            have hW : pM G (MWl G ad (xi (xi (xi y 0 0) 1 1) 2 (-1)) ++ W0) s _ _ := hW
            exact re_i hF hRt hLk hQ (by omega) (by omega) dX4_finds_99 (xi (xi (xi y 0 0) 1 1) 2 (-1)) (by unfold findsS; rw [hi0]; exact ⟨rfl, ⟨m0, m1, m2, m3, m4, m5, m6, m7, m8, m9, m10, m11, m12, m13, m14, rfl, m16, rfl, m18, m19, m20, m21, m22⟩⟩) hW
        · refine lv_iload_n hx hb dX4_finds_13 rfl (lv_at hl 3 rfl) ?_
          refine lv_aload_n hx hb dX4_finds_14 rfl (lv_at hl 0 rfl) ?_
          refine gM0_papers hF hW q1100 (v := nI (cP S.1).length) (m2) dX4_finds_15 ?_
          refine lv_icmp_ge (tgt := 30) hx hb dX4_finds_18 (by decide) (fun c_18 => ?_) (fun c_18 => absurd (And.intro (Int32.not_lt.mp c_10) (Int32.not_le.mp c_18)) (ix_no hi2))
          refine lv_iload_n hx hb dX4_finds_30 rfl (lv_at hl 2 rfl) ?_
          refine lv_iconst (v := 1) hx hb dX4_finds_31 (by decide) ?_
          refine lv_icmp_ne (tgt := 52) hx hb dX4_finds_32 (by decide) (fun c_32 => ?_) (fun c_32 => absurd c_32 (by decide))
          refine lv_iload_n hx hb dX4_finds_52 rfl (lv_at hl 2 rfl) ?_
          refine lv_iconst (v := 2) hx hb dX4_finds_53 (by decide) ?_
          refine lv_icmp_ne (tgt := 78) hx hb dX4_finds_54 (by decide) (fun c_54 => ?_) (fun c_54 => absurd c_54 (by decide))
          refine lv_null hx hb dX4_finds_78 ?_
          refine lv_astoreN (lv' := [(4, .null), (0, .ref (ad 0)), (1, .int a0), (2, .int 0), (3, .int a2)]) hx hb dX4_finds_79 hl (by decide) rfl (fun ls hl => ?_)
          refine lv_aload_n hx hb dX4_finds_81 rfl (lv_at hl 1 rfl) ?_
          refine lv_iload_n hx hb dX4_finds_82 rfl (lv_at hl 2 rfl) ?_
          refine cl_i (ru_V (As := [.int a0]) (rest := []) hF (mX4_isClaim l G ad (xi y 0 0) W0 a0) (cwV 1 hts (lw_V q1354 q1356 qs45 q66 q1357) rfl rfl rfl (by decide +kernel) ⟨lb hR1 rfl, lb hR4 rfl⟩) hW (List.mem_of_getElem? (i := 0) rfl) (ci := 20) rfl rfl rfl hl.1 rfl (lv_room (Nat.le_of_ble_eq_true rfl)) dX4_finds_83 ⟨by omega, by omega⟩) hW (fun r_ u_ H locs h_ hW => ?_)
          have hW : pM G (MWl G ad (xi y 0 0) ++ W0) s _ _ := hW
          rcases h_ with ⟨rfl, h_⟩ | ⟨rfl, h_⟩
          · exact absurd h_ (fun z => ix_no hi0 (by rw [show (xi y 0 0).1 7 = nI (cC S.1).length from m8] at z; exact z))
          · refine lv_if_eq (tgt := 94) hx hb dX4_finds_86 (by decide) (fun c_86 => ?_) (fun c_86 => absurd c_86 (by decide))
            refine lv_aload_n hx hb dX4_finds_94 rfl (lv_at hl 1 rfl) ?_
            refine lv_iconst (v := 1) hx hb dX4_finds_95 (by decide) ?_
            refine cl_i (ru_V (As := [.int 1]) (rest := []) hF (mX4_refused l G ad (xi y 0 0) W0 1) (cwV 1 hts (lw_V q1255 q1257 qs29 q66 q1258) rfl rfl rfl (by decide +kernel) ⟨lb hR1 rfl, lb hR4 rfl⟩) hW (List.mem_of_getElem? (i := 0) rfl) (ci := 20) rfl rfl rfl hl.1 rfl (lv_room (Nat.le_of_ble_eq_true rfl)) dX4_finds_96 ⟨by omega, by omega⟩) hW (fun r_4 u_5 H locs h_6 hW => ?_)
            obtain ⟨rfl, rfl⟩ : r_4 = (-1) ∧ u_5 = _ := h_6
            have hW : pM G (MWl G ad (xi (xi (xi y 0 0) 1 1) 2 (-1)) ++ W0) s _ _ := hW
            exact re_i hF hRt hLk hQ (by omega) (by omega) dX4_finds_99 (xi (xi (xi y 0 0) 1 1) 2 (-1)) (by unfold findsS; rw [hi0]; exact ⟨rfl, ⟨m0, m1, m2, m3, m4, m5, m6, m7, m8, m9, m10, m11, m12, m13, m14, rfl, m16, rfl, m18, m19, m20, m21, m22⟩⟩) hW
      | some k2 =>
        obtain ⟨hk2, rfl⟩ := ix_some hi2 (by omega)
        refine lv_aload_n hx hb dX4_finds_0 rfl (lv_at hl 0 rfl) ?_
        refine lv_iconst (v := 0) hx hb dX4_finds_1 (by decide) ?_
        refine pM0_thrown hF hW q1095 dX4_finds_2 (fun H locs hW => ?_)
        have hW : pM G (MWl G ad (xi y 0 0) ++ W0) s _ _ := hW
        refine lv_iload_n hx hb dX4_finds_5 rfl (lv_at hl 2 rfl) ?_
        refine lv_if_ne (tgt := 30) hx hb dX4_finds_6 (by decide) (fun c_6 => absurd c_6 (by decide)) (fun c_6 => ?_)
        refine lv_iload_n hx hb dX4_finds_9 rfl (lv_at hl 3 rfl) ?_
        refine lv_if_lt (tgt := 30) hx hb dX4_finds_10 (by decide) (fun c_10 => absurd c_10 (nI_pos (by omega))) (fun c_10 => ?_)
        refine lv_iload_n hx hb dX4_finds_13 rfl (lv_at hl 3 rfl) ?_
        refine lv_aload_n hx hb dX4_finds_14 rfl (lv_at hl 0 rfl) ?_
        refine gM0_papers hF hW q1100 (v := nI (cP S.1).length) (m2) dX4_finds_15 ?_
        refine lv_icmp_ge (tgt := 30) hx hb dX4_finds_18 (by decide) (fun c_18 => absurd (le_le c_18) (by omega)) (fun c_18 => ?_)
        refine lv_aload_n hx hb dX4_finds_21 rfl (lv_at hl 0 rfl) ?_
        refine gM0_paper hF hW q1107 dX4_finds_22 ?_
        refine lv_iload_n hx hb dX4_finds_25 rfl (lv_at hl 3 rfl) ?_
        obtain ⟨qb, hqb1, hqb2⟩ := (m3 k2 hk2).1
        refine lM3 hF hW (j := k2) (rfl) (by omega) (r := qb) (hqb1) dX4_finds_26 ?_
        refine lv_goto (tgt := 79) hx hb dX4_finds_27 (by decide) ?_
        refine lv_astore (lv' := [(4, .ref qb), (0, .ref (ad 0)), (1, .int a0), (2, .int 0), (3, .int (nI k2))]) hx hb dX4_finds_79 hl (by decide) rfl (fun ls hl => ?_)
        refine lv_aload_n hx hb dX4_finds_81 rfl (lv_at hl 1 rfl) ?_
        refine lv_iload_n hx hb dX4_finds_82 rfl (lv_at hl 2 rfl) ?_
        refine cl_i (ru_V (As := [.int a0]) (rest := []) hF (mX4_isClaim l G ad (xi y 0 0) W0 a0) (cwV 1 hts (lw_V q1354 q1356 qs45 q66 q1357) rfl rfl rfl (by decide +kernel) ⟨lb hR1 rfl, lb hR4 rfl⟩) hW (List.mem_of_getElem? (i := 0) rfl) (ci := 20) rfl rfl rfl hl.1 rfl (lv_room (Nat.le_of_ble_eq_true rfl)) dX4_finds_83 ⟨by omega, by omega⟩) hW (fun r_ u_ H locs h_ hW => ?_)
        have hW : pM G (MWl G ad (xi y 0 0) ++ W0) s _ _ := hW
        rcases h_ with ⟨rfl, h_⟩ | ⟨rfl, h_⟩
        · exact absurd h_ (fun z => ix_no hi0 (by rw [show (xi y 0 0).1 7 = nI (cC S.1).length from m8] at z; exact z))
        · refine lv_if_eq (tgt := 94) hx hb dX4_finds_86 (by decide) (fun c_86 => ?_) (fun c_86 => absurd c_86 (by decide))
          refine lv_aload_n hx hb dX4_finds_94 rfl (lv_at hl 1 rfl) ?_
          refine lv_iconst (v := 1) hx hb dX4_finds_95 (by decide) ?_
          refine cl_i (ru_V (As := [.int 1]) (rest := []) hF (mX4_refused l G ad (xi y 0 0) W0 1) (cwV 1 hts (lw_V q1255 q1257 qs29 q66 q1258) rfl rfl rfl (by decide +kernel) ⟨lb hR1 rfl, lb hR4 rfl⟩) hW (List.mem_of_getElem? (i := 0) rfl) (ci := 20) rfl rfl rfl hl.1 rfl (lv_room (Nat.le_of_ble_eq_true rfl)) dX4_finds_96 ⟨by omega, by omega⟩) hW (fun r_7 u_8 H locs h_9 hW => ?_)
          obtain ⟨rfl, rfl⟩ : r_7 = (-1) ∧ u_8 = _ := h_9
          have hW : pM G (MWl G ad (xi (xi (xi y 0 0) 1 1) 2 (-1)) ++ W0) s _ _ := hW
          exact re_i hF hRt hLk hQ (by omega) (by omega) dX4_finds_99 (xi (xi (xi y 0 0) 1 1) 2 (-1)) (by unfold findsS; rw [hi0]; exact ⟨rfl, ⟨m0, m1, m2, m3, m4, m5, m6, m7, m8, m9, m10, m11, m12, m13, m14, rfl, m16, rfl, m18, m19, m20, m21, m22⟩⟩) hW
    · by_cases z1 : a1 = 1
      · subst z1
        cases hi2 : ix a2 (cF S.1).length with
        | none =>
          refine lv_aload_n hx hb dX4_finds_0 rfl (lv_at hl 0 rfl) ?_
          refine lv_iconst (v := 0) hx hb dX4_finds_1 (by decide) ?_
          refine pM0_thrown hF hW q1095 dX4_finds_2 (fun H locs hW => ?_)
          have hW : pM G (MWl G ad (xi y 0 0) ++ W0) s _ _ := hW
          refine lv_iload_n hx hb dX4_finds_5 rfl (lv_at hl 2 rfl) ?_
          refine lv_if_ne (tgt := 30) hx hb dX4_finds_6 (by decide) (fun c_6 => ?_) (fun c_6 => absurd c_6 (by decide))
          refine lv_iload_n hx hb dX4_finds_30 rfl (lv_at hl 2 rfl) ?_
          refine lv_iconst (v := 1) hx hb dX4_finds_31 (by decide) ?_
          refine lv_icmp_ne (tgt := 52) hx hb dX4_finds_32 (by decide) (fun c_32 => absurd c_32 (by decide)) (fun c_32 => ?_)
          refine lv_aload_n hx hb dX4_finds_35 rfl (lv_at hl 0 rfl) ?_
          refine lv_iload_n hx hb dX4_finds_36 rfl (lv_at hl 3 rfl) ?_
          refine cl_i (ru_V (As := [.int a2]) (rest := []) hF (mX4_isFile l G ad (xi y 0 0) W0 a2) (cwV 1 hts (lw_V q1346 q1348 qs44 q66 q1349) rfl rfl rfl (by decide +kernel) ⟨lb hR1 rfl, lb hR4 rfl⟩) hW (List.mem_of_getElem? (i := 0) rfl) (ci := 20) rfl rfl rfl hl.1 rfl (lv_room (Nat.le_of_ble_eq_true rfl)) dX4_finds_37 ⟨by omega, by omega⟩) hW (fun r_ u_ H locs h_ hW => ?_)
          have hW : pM G (MWl G ad (xi y 0 0) ++ W0) s _ _ := hW
          rcases h_ with ⟨rfl, h_⟩ | ⟨rfl, h_⟩
          · exact absurd h_ (fun z => ix_no hi2 (by rw [show (xi y 0 0).1 6 = nI (cF S.1).length from m4] at z; exact z))
          · refine lv_if_eq (tgt := 52) hx hb dX4_finds_40 (by decide) (fun c_40 => ?_) (fun c_40 => absurd c_40 (by decide))
            refine lv_iload_n hx hb dX4_finds_52 rfl (lv_at hl 2 rfl) ?_
            refine lv_iconst (v := 2) hx hb dX4_finds_53 (by decide) ?_
            refine lv_icmp_ne (tgt := 78) hx hb dX4_finds_54 (by decide) (fun c_54 => ?_) (fun c_54 => absurd c_54 (by decide))
            refine lv_null hx hb dX4_finds_78 ?_
            refine lv_astoreN (lv' := [(4, .null), (0, .ref (ad 0)), (1, .int a0), (2, .int 1), (3, .int a2)]) hx hb dX4_finds_79 hl (by decide) rfl (fun ls hl => ?_)
            refine lv_aload_n hx hb dX4_finds_81 rfl (lv_at hl 1 rfl) ?_
            refine lv_iload_n hx hb dX4_finds_82 rfl (lv_at hl 2 rfl) ?_
            refine cl_i (ru_V (As := [.int a0]) (rest := []) hF (mX4_isClaim l G ad (xi y 0 0) W0 a0) (cwV 1 hts (lw_V q1354 q1356 qs45 q66 q1357) rfl rfl rfl (by decide +kernel) ⟨lb hR1 rfl, lb hR4 rfl⟩) hW (List.mem_of_getElem? (i := 0) rfl) (ci := 20) rfl rfl rfl hl.1 rfl (lv_room (Nat.le_of_ble_eq_true rfl)) dX4_finds_83 ⟨by omega, by omega⟩) hW (fun r_ u_ H locs h_ hW => ?_)
            have hW : pM G (MWl G ad (xi y 0 0) ++ W0) s _ _ := hW
            rcases h_ with ⟨rfl, h_⟩ | ⟨rfl, h_⟩
            · exact absurd h_ (fun z => ix_no hi0 (by rw [show (xi y 0 0).1 7 = nI (cC S.1).length from m8] at z; exact z))
            · refine lv_if_eq (tgt := 94) hx hb dX4_finds_86 (by decide) (fun c_86 => ?_) (fun c_86 => absurd c_86 (by decide))
              refine lv_aload_n hx hb dX4_finds_94 rfl (lv_at hl 1 rfl) ?_
              refine lv_iconst (v := 1) hx hb dX4_finds_95 (by decide) ?_
              refine cl_i (ru_V (As := [.int 1]) (rest := []) hF (mX4_refused l G ad (xi y 0 0) W0 1) (cwV 1 hts (lw_V q1255 q1257 qs29 q66 q1258) rfl rfl rfl (by decide +kernel) ⟨lb hR1 rfl, lb hR4 rfl⟩) hW (List.mem_of_getElem? (i := 0) rfl) (ci := 20) rfl rfl rfl hl.1 rfl (lv_room (Nat.le_of_ble_eq_true rfl)) dX4_finds_96 ⟨by omega, by omega⟩) hW (fun r_10 u_11 H locs h_12 hW => ?_)
              obtain ⟨rfl, rfl⟩ : r_10 = (-1) ∧ u_11 = _ := h_12
              have hW : pM G (MWl G ad (xi (xi (xi y 0 0) 1 1) 2 (-1)) ++ W0) s _ _ := hW
              exact re_i hF hRt hLk hQ (by omega) (by omega) dX4_finds_99 (xi (xi (xi y 0 0) 1 1) 2 (-1)) (by unfold findsS; rw [hi0]; exact ⟨rfl, ⟨m0, m1, m2, m3, m4, m5, m6, m7, m8, m9, m10, m11, m12, m13, m14, rfl, m16, rfl, m18, m19, m20, m21, m22⟩⟩) hW
        | some k2 =>
          obtain ⟨hk2, rfl⟩ := ix_some hi2 (by omega)
          refine lv_aload_n hx hb dX4_finds_0 rfl (lv_at hl 0 rfl) ?_
          refine lv_iconst (v := 0) hx hb dX4_finds_1 (by decide) ?_
          refine pM0_thrown hF hW q1095 dX4_finds_2 (fun H locs hW => ?_)
          have hW : pM G (MWl G ad (xi y 0 0) ++ W0) s _ _ := hW
          refine lv_iload_n hx hb dX4_finds_5 rfl (lv_at hl 2 rfl) ?_
          refine lv_if_ne (tgt := 30) hx hb dX4_finds_6 (by decide) (fun c_6 => ?_) (fun c_6 => absurd c_6 (by decide))
          refine lv_iload_n hx hb dX4_finds_30 rfl (lv_at hl 2 rfl) ?_
          refine lv_iconst (v := 1) hx hb dX4_finds_31 (by decide) ?_
          refine lv_icmp_ne (tgt := 52) hx hb dX4_finds_32 (by decide) (fun c_32 => absurd c_32 (by decide)) (fun c_32 => ?_)
          refine lv_aload_n hx hb dX4_finds_35 rfl (lv_at hl 0 rfl) ?_
          refine lv_iload_n hx hb dX4_finds_36 rfl (lv_at hl 3 rfl) ?_
          refine cl_i (ru_V (As := [.int (nI k2)]) (rest := []) hF (mX4_isFile l G ad (xi y 0 0) W0 (nI k2)) (cwV 1 hts (lw_V q1346 q1348 qs44 q66 q1349) rfl rfl rfl (by decide +kernel) ⟨lb hR1 rfl, lb hR4 rfl⟩) hW (List.mem_of_getElem? (i := 0) rfl) (ci := 20) rfl rfl rfl hl.1 rfl (lv_room (Nat.le_of_ble_eq_true rfl)) dX4_finds_37 ⟨by omega, by omega⟩) hW (fun r_ u_ H locs h_ hW => ?_)
          have hW : pM G (MWl G ad (xi y 0 0) ++ W0) s _ _ := hW
          rcases h_ with ⟨rfl, h_⟩ | ⟨rfl, h_⟩
          · refine lv_if_eq (tgt := 52) hx hb dX4_finds_40 (by decide) (fun c_40 => absurd c_40 (by decide)) (fun c_40 => ?_)
            refine lv_aload_n hx hb dX4_finds_43 rfl (lv_at hl 0 rfl) ?_
            refine gM0_file hF hW q1108 dX4_finds_44 ?_
            refine lv_iload_n hx hb dX4_finds_47 rfl (lv_at hl 3 rfl) ?_
            obtain ⟨qb, hqb1, hqb2⟩ := (m5 k2 hk2).1
            refine lM4 hF hW (j := k2) (rfl) (by omega) (r := qb) (hqb1) dX4_finds_48 ?_
            refine lv_goto (tgt := 79) hx hb dX4_finds_49 (by decide) ?_
            refine lv_astore (lv' := [(4, .ref qb), (0, .ref (ad 0)), (1, .int a0), (2, .int 1), (3, .int (nI k2))]) hx hb dX4_finds_79 hl (by decide) rfl (fun ls hl => ?_)
            refine lv_aload_n hx hb dX4_finds_81 rfl (lv_at hl 1 rfl) ?_
            refine lv_iload_n hx hb dX4_finds_82 rfl (lv_at hl 2 rfl) ?_
            refine cl_i (ru_V (As := [.int a0]) (rest := []) hF (mX4_isClaim l G ad (xi y 0 0) W0 a0) (cwV 1 hts (lw_V q1354 q1356 qs45 q66 q1357) rfl rfl rfl (by decide +kernel) ⟨lb hR1 rfl, lb hR4 rfl⟩) hW (List.mem_of_getElem? (i := 0) rfl) (ci := 20) rfl rfl rfl hl.1 rfl (lv_room (Nat.le_of_ble_eq_true rfl)) dX4_finds_83 ⟨by omega, by omega⟩) hW (fun r_ u_ H locs h_ hW => ?_)
            have hW : pM G (MWl G ad (xi y 0 0) ++ W0) s _ _ := hW
            rcases h_ with ⟨rfl, h_⟩ | ⟨rfl, h_⟩
            · exact absurd h_ (fun z => ix_no hi0 (by rw [show (xi y 0 0).1 7 = nI (cC S.1).length from m8] at z; exact z))
            · refine lv_if_eq (tgt := 94) hx hb dX4_finds_86 (by decide) (fun c_86 => ?_) (fun c_86 => absurd c_86 (by decide))
              refine lv_aload_n hx hb dX4_finds_94 rfl (lv_at hl 1 rfl) ?_
              refine lv_iconst (v := 1) hx hb dX4_finds_95 (by decide) ?_
              refine cl_i (ru_V (As := [.int 1]) (rest := []) hF (mX4_refused l G ad (xi y 0 0) W0 1) (cwV 1 hts (lw_V q1255 q1257 qs29 q66 q1258) rfl rfl rfl (by decide +kernel) ⟨lb hR1 rfl, lb hR4 rfl⟩) hW (List.mem_of_getElem? (i := 0) rfl) (ci := 20) rfl rfl rfl hl.1 rfl (lv_room (Nat.le_of_ble_eq_true rfl)) dX4_finds_96 ⟨by omega, by omega⟩) hW (fun r_13 u_14 H locs h_15 hW => ?_)
              obtain ⟨rfl, rfl⟩ : r_13 = (-1) ∧ u_14 = _ := h_15
              have hW : pM G (MWl G ad (xi (xi (xi y 0 0) 1 1) 2 (-1)) ++ W0) s _ _ := hW
              exact re_i hF hRt hLk hQ (by omega) (by omega) dX4_finds_99 (xi (xi (xi y 0 0) 1 1) 2 (-1)) (by unfold findsS; rw [hi0]; exact ⟨rfl, ⟨m0, m1, m2, m3, m4, m5, m6, m7, m8, m9, m10, m11, m12, m13, m14, rfl, m16, rfl, m18, m19, m20, m21, m22⟩⟩) hW
          · exact absurd ((by rw [show (xi y 0 0).1 6 = nI (cF S.1).length from m4]; exact ix_in hi2 : 0 ≤ (nI k2) ∧ (nI k2) < (xi y 0 0).1 6)) h_
      · by_cases z2 : a1 = 2
        · subst z2
          cases hi2 : ix a2 (cT S.1).length with
          | none =>
            refine lv_aload_n hx hb dX4_finds_0 rfl (lv_at hl 0 rfl) ?_
            refine lv_iconst (v := 0) hx hb dX4_finds_1 (by decide) ?_
            refine pM0_thrown hF hW q1095 dX4_finds_2 (fun H locs hW => ?_)
            have hW : pM G (MWl G ad (xi y 0 0) ++ W0) s _ _ := hW
            refine lv_iload_n hx hb dX4_finds_5 rfl (lv_at hl 2 rfl) ?_
            refine lv_if_ne (tgt := 30) hx hb dX4_finds_6 (by decide) (fun c_6 => ?_) (fun c_6 => absurd c_6 (by decide))
            refine lv_iload_n hx hb dX4_finds_30 rfl (lv_at hl 2 rfl) ?_
            refine lv_iconst (v := 1) hx hb dX4_finds_31 (by decide) ?_
            refine lv_icmp_ne (tgt := 52) hx hb dX4_finds_32 (by decide) (fun c_32 => ?_) (fun c_32 => absurd c_32 (by decide))
            refine lv_iload_n hx hb dX4_finds_52 rfl (lv_at hl 2 rfl) ?_
            refine lv_iconst (v := 2) hx hb dX4_finds_53 (by decide) ?_
            refine lv_icmp_ne (tgt := 78) hx hb dX4_finds_54 (by decide) (fun c_54 => absurd c_54 (by decide)) (fun c_54 => ?_)
            refine lv_iload_n hx hb dX4_finds_57 rfl (lv_at hl 3 rfl) ?_
            refine lv_if_lt (tgt := 78) hx hb dX4_finds_58 (by decide) (fun c_58 => ?_) (fun c_58 => ?_)
            · refine lv_null hx hb dX4_finds_78 ?_
              refine lv_astoreN (lv' := [(4, .null), (0, .ref (ad 0)), (1, .int a0), (2, .int 2), (3, .int a2)]) hx hb dX4_finds_79 hl (by decide) rfl (fun ls hl => ?_)
              refine lv_aload_n hx hb dX4_finds_81 rfl (lv_at hl 1 rfl) ?_
              refine lv_iload_n hx hb dX4_finds_82 rfl (lv_at hl 2 rfl) ?_
              refine cl_i (ru_V (As := [.int a0]) (rest := []) hF (mX4_isClaim l G ad (xi y 0 0) W0 a0) (cwV 1 hts (lw_V q1354 q1356 qs45 q66 q1357) rfl rfl rfl (by decide +kernel) ⟨lb hR1 rfl, lb hR4 rfl⟩) hW (List.mem_of_getElem? (i := 0) rfl) (ci := 20) rfl rfl rfl hl.1 rfl (lv_room (Nat.le_of_ble_eq_true rfl)) dX4_finds_83 ⟨by omega, by omega⟩) hW (fun r_ u_ H locs h_ hW => ?_)
              have hW : pM G (MWl G ad (xi y 0 0) ++ W0) s _ _ := hW
              rcases h_ with ⟨rfl, h_⟩ | ⟨rfl, h_⟩
              · exact absurd h_ (fun z => ix_no hi0 (by rw [show (xi y 0 0).1 7 = nI (cC S.1).length from m8] at z; exact z))
              · refine lv_if_eq (tgt := 94) hx hb dX4_finds_86 (by decide) (fun c_86 => ?_) (fun c_86 => absurd c_86 (by decide))
                refine lv_aload_n hx hb dX4_finds_94 rfl (lv_at hl 1 rfl) ?_
                refine lv_iconst (v := 1) hx hb dX4_finds_95 (by decide) ?_
                refine cl_i (ru_V (As := [.int 1]) (rest := []) hF (mX4_refused l G ad (xi y 0 0) W0 1) (cwV 1 hts (lw_V q1255 q1257 qs29 q66 q1258) rfl rfl rfl (by decide +kernel) ⟨lb hR1 rfl, lb hR4 rfl⟩) hW (List.mem_of_getElem? (i := 0) rfl) (ci := 20) rfl rfl rfl hl.1 rfl (lv_room (Nat.le_of_ble_eq_true rfl)) dX4_finds_96 ⟨by omega, by omega⟩) hW (fun r_16 u_17 H locs h_18 hW => ?_)
                obtain ⟨rfl, rfl⟩ : r_16 = (-1) ∧ u_17 = _ := h_18
                have hW : pM G (MWl G ad (xi (xi (xi y 0 0) 1 1) 2 (-1)) ++ W0) s _ _ := hW
                exact re_i hF hRt hLk hQ (by omega) (by omega) dX4_finds_99 (xi (xi (xi y 0 0) 1 1) 2 (-1)) (by unfold findsS; rw [hi0]; exact ⟨rfl, ⟨m0, m1, m2, m3, m4, m5, m6, m7, m8, m9, m10, m11, m12, m13, m14, rfl, m16, rfl, m18, m19, m20, m21, m22⟩⟩) hW
            · refine lv_iload_n hx hb dX4_finds_61 rfl (lv_at hl 3 rfl) ?_
              refine lv_aload_n hx hb dX4_finds_62 rfl (lv_at hl 0 rfl) ?_
              refine gM0_things hF hW q1103 (v := nI (cT S.1).length) (m6) dX4_finds_63 ?_
              refine lv_icmp_ge (tgt := 78) hx hb dX4_finds_66 (by decide) (fun c_66 => ?_) (fun c_66 => absurd (And.intro (Int32.not_lt.mp c_58) (Int32.not_le.mp c_66)) (ix_no hi2))
              refine lv_null hx hb dX4_finds_78 ?_
              refine lv_astoreN (lv' := [(4, .null), (0, .ref (ad 0)), (1, .int a0), (2, .int 2), (3, .int a2)]) hx hb dX4_finds_79 hl (by decide) rfl (fun ls hl => ?_)
              refine lv_aload_n hx hb dX4_finds_81 rfl (lv_at hl 1 rfl) ?_
              refine lv_iload_n hx hb dX4_finds_82 rfl (lv_at hl 2 rfl) ?_
              refine cl_i (ru_V (As := [.int a0]) (rest := []) hF (mX4_isClaim l G ad (xi y 0 0) W0 a0) (cwV 1 hts (lw_V q1354 q1356 qs45 q66 q1357) rfl rfl rfl (by decide +kernel) ⟨lb hR1 rfl, lb hR4 rfl⟩) hW (List.mem_of_getElem? (i := 0) rfl) (ci := 20) rfl rfl rfl hl.1 rfl (lv_room (Nat.le_of_ble_eq_true rfl)) dX4_finds_83 ⟨by omega, by omega⟩) hW (fun r_ u_ H locs h_ hW => ?_)
              have hW : pM G (MWl G ad (xi y 0 0) ++ W0) s _ _ := hW
              rcases h_ with ⟨rfl, h_⟩ | ⟨rfl, h_⟩
              · exact absurd h_ (fun z => ix_no hi0 (by rw [show (xi y 0 0).1 7 = nI (cC S.1).length from m8] at z; exact z))
              · refine lv_if_eq (tgt := 94) hx hb dX4_finds_86 (by decide) (fun c_86 => ?_) (fun c_86 => absurd c_86 (by decide))
                refine lv_aload_n hx hb dX4_finds_94 rfl (lv_at hl 1 rfl) ?_
                refine lv_iconst (v := 1) hx hb dX4_finds_95 (by decide) ?_
                refine cl_i (ru_V (As := [.int 1]) (rest := []) hF (mX4_refused l G ad (xi y 0 0) W0 1) (cwV 1 hts (lw_V q1255 q1257 qs29 q66 q1258) rfl rfl rfl (by decide +kernel) ⟨lb hR1 rfl, lb hR4 rfl⟩) hW (List.mem_of_getElem? (i := 0) rfl) (ci := 20) rfl rfl rfl hl.1 rfl (lv_room (Nat.le_of_ble_eq_true rfl)) dX4_finds_96 ⟨by omega, by omega⟩) hW (fun r_19 u_20 H locs h_21 hW => ?_)
                obtain ⟨rfl, rfl⟩ : r_19 = (-1) ∧ u_20 = _ := h_21
                have hW : pM G (MWl G ad (xi (xi (xi y 0 0) 1 1) 2 (-1)) ++ W0) s _ _ := hW
                exact re_i hF hRt hLk hQ (by omega) (by omega) dX4_finds_99 (xi (xi (xi y 0 0) 1 1) 2 (-1)) (by unfold findsS; rw [hi0]; exact ⟨rfl, ⟨m0, m1, m2, m3, m4, m5, m6, m7, m8, m9, m10, m11, m12, m13, m14, rfl, m16, rfl, m18, m19, m20, m21, m22⟩⟩) hW
          | some k2 =>
            obtain ⟨hk2, rfl⟩ := ix_some hi2 (by omega)
            refine lv_aload_n hx hb dX4_finds_0 rfl (lv_at hl 0 rfl) ?_
            refine lv_iconst (v := 0) hx hb dX4_finds_1 (by decide) ?_
            refine pM0_thrown hF hW q1095 dX4_finds_2 (fun H locs hW => ?_)
            have hW : pM G (MWl G ad (xi y 0 0) ++ W0) s _ _ := hW
            refine lv_iload_n hx hb dX4_finds_5 rfl (lv_at hl 2 rfl) ?_
            refine lv_if_ne (tgt := 30) hx hb dX4_finds_6 (by decide) (fun c_6 => ?_) (fun c_6 => absurd c_6 (by decide))
            refine lv_iload_n hx hb dX4_finds_30 rfl (lv_at hl 2 rfl) ?_
            refine lv_iconst (v := 1) hx hb dX4_finds_31 (by decide) ?_
            refine lv_icmp_ne (tgt := 52) hx hb dX4_finds_32 (by decide) (fun c_32 => ?_) (fun c_32 => absurd c_32 (by decide))
            refine lv_iload_n hx hb dX4_finds_52 rfl (lv_at hl 2 rfl) ?_
            refine lv_iconst (v := 2) hx hb dX4_finds_53 (by decide) ?_
            refine lv_icmp_ne (tgt := 78) hx hb dX4_finds_54 (by decide) (fun c_54 => absurd c_54 (by decide)) (fun c_54 => ?_)
            refine lv_iload_n hx hb dX4_finds_57 rfl (lv_at hl 3 rfl) ?_
            refine lv_if_lt (tgt := 78) hx hb dX4_finds_58 (by decide) (fun c_58 => absurd c_58 (nI_pos (by omega))) (fun c_58 => ?_)
            refine lv_iload_n hx hb dX4_finds_61 rfl (lv_at hl 3 rfl) ?_
            refine lv_aload_n hx hb dX4_finds_62 rfl (lv_at hl 0 rfl) ?_
            refine gM0_things hF hW q1103 (v := nI (cT S.1).length) (m6) dX4_finds_63 ?_
            refine lv_icmp_ge (tgt := 78) hx hb dX4_finds_66 (by decide) (fun c_66 => absurd (le_le c_66) (by omega)) (fun c_66 => ?_)
            refine lv_aload_n hx hb dX4_finds_69 rfl (lv_at hl 0 rfl) ?_
            refine gM0_thing hF hW q1109 dX4_finds_70 ?_
            refine lv_iload_n hx hb dX4_finds_73 rfl (lv_at hl 3 rfl) ?_
            obtain ⟨qb, hqb1, hqb2⟩ := (m7 k2 hk2).1
            refine lM5 hF hW (j := k2) (rfl) (by omega) (r := qb) (hqb1) dX4_finds_74 ?_
            refine lv_goto (tgt := 79) hx hb dX4_finds_75 (by decide) ?_
            refine lv_astore (lv' := [(4, .ref qb), (0, .ref (ad 0)), (1, .int a0), (2, .int 2), (3, .int (nI k2))]) hx hb dX4_finds_79 hl (by decide) rfl (fun ls hl => ?_)
            refine lv_aload_n hx hb dX4_finds_81 rfl (lv_at hl 1 rfl) ?_
            refine lv_iload_n hx hb dX4_finds_82 rfl (lv_at hl 2 rfl) ?_
            refine cl_i (ru_V (As := [.int a0]) (rest := []) hF (mX4_isClaim l G ad (xi y 0 0) W0 a0) (cwV 1 hts (lw_V q1354 q1356 qs45 q66 q1357) rfl rfl rfl (by decide +kernel) ⟨lb hR1 rfl, lb hR4 rfl⟩) hW (List.mem_of_getElem? (i := 0) rfl) (ci := 20) rfl rfl rfl hl.1 rfl (lv_room (Nat.le_of_ble_eq_true rfl)) dX4_finds_83 ⟨by omega, by omega⟩) hW (fun r_ u_ H locs h_ hW => ?_)
            have hW : pM G (MWl G ad (xi y 0 0) ++ W0) s _ _ := hW
            rcases h_ with ⟨rfl, h_⟩ | ⟨rfl, h_⟩
            · exact absurd h_ (fun z => ix_no hi0 (by rw [show (xi y 0 0).1 7 = nI (cC S.1).length from m8] at z; exact z))
            · refine lv_if_eq (tgt := 94) hx hb dX4_finds_86 (by decide) (fun c_86 => ?_) (fun c_86 => absurd c_86 (by decide))
              refine lv_aload_n hx hb dX4_finds_94 rfl (lv_at hl 1 rfl) ?_
              refine lv_iconst (v := 1) hx hb dX4_finds_95 (by decide) ?_
              refine cl_i (ru_V (As := [.int 1]) (rest := []) hF (mX4_refused l G ad (xi y 0 0) W0 1) (cwV 1 hts (lw_V q1255 q1257 qs29 q66 q1258) rfl rfl rfl (by decide +kernel) ⟨lb hR1 rfl, lb hR4 rfl⟩) hW (List.mem_of_getElem? (i := 0) rfl) (ci := 20) rfl rfl rfl hl.1 rfl (lv_room (Nat.le_of_ble_eq_true rfl)) dX4_finds_96 ⟨by omega, by omega⟩) hW (fun r_22 u_23 H locs h_24 hW => ?_)
              obtain ⟨rfl, rfl⟩ : r_22 = (-1) ∧ u_23 = _ := h_24
              have hW : pM G (MWl G ad (xi (xi (xi y 0 0) 1 1) 2 (-1)) ++ W0) s _ _ := hW
              exact re_i hF hRt hLk hQ (by omega) (by omega) dX4_finds_99 (xi (xi (xi y 0 0) 1 1) 2 (-1)) (by unfold findsS; rw [hi0]; exact ⟨rfl, ⟨m0, m1, m2, m3, m4, m5, m6, m7, m8, m9, m10, m11, m12, m13, m14, rfl, m16, rfl, m18, m19, m20, m21, m22⟩⟩) hW
        · have htx : textOf S.1 a1 a2 = none := by unfold textOf; rw [if_neg z0, if_neg z1, if_neg z2]
          refine lv_aload_n hx hb dX4_finds_0 rfl (lv_at hl 0 rfl) ?_
          refine lv_iconst (v := 0) hx hb dX4_finds_1 (by decide) ?_
          refine pM0_thrown hF hW q1095 dX4_finds_2 (fun H locs hW => ?_)
          have hW : pM G (MWl G ad (xi y 0 0) ++ W0) s _ _ := hW
          refine lv_iload_n hx hb dX4_finds_5 rfl (lv_at hl 2 rfl) ?_
          refine lv_if_ne (tgt := 30) hx hb dX4_finds_6 (by decide) (fun c_6 => ?_) (fun c_6 => absurd c_6 z0)
          refine lv_iload_n hx hb dX4_finds_30 rfl (lv_at hl 2 rfl) ?_
          refine lv_iconst (v := 1) hx hb dX4_finds_31 (by decide) ?_
          refine lv_icmp_ne (tgt := 52) hx hb dX4_finds_32 (by decide) (fun c_32 => ?_) (fun c_32 => absurd c_32 z1)
          refine lv_iload_n hx hb dX4_finds_52 rfl (lv_at hl 2 rfl) ?_
          refine lv_iconst (v := 2) hx hb dX4_finds_53 (by decide) ?_
          refine lv_icmp_ne (tgt := 78) hx hb dX4_finds_54 (by decide) (fun c_54 => ?_) (fun c_54 => absurd c_54 z2)
          refine lv_null hx hb dX4_finds_78 ?_
          refine lv_astoreN (lv' := [(4, .null), (0, .ref (ad 0)), (1, .int a0), (2, .int a1), (3, .int a2)]) hx hb dX4_finds_79 hl (by decide) rfl (fun ls hl => ?_)
          refine lv_aload_n hx hb dX4_finds_81 rfl (lv_at hl 1 rfl) ?_
          refine lv_iload_n hx hb dX4_finds_82 rfl (lv_at hl 2 rfl) ?_
          refine cl_i (ru_V (As := [.int a0]) (rest := []) hF (mX4_isClaim l G ad (xi y 0 0) W0 a0) (cwV 1 hts (lw_V q1354 q1356 qs45 q66 q1357) rfl rfl rfl (by decide +kernel) ⟨lb hR1 rfl, lb hR4 rfl⟩) hW (List.mem_of_getElem? (i := 0) rfl) (ci := 20) rfl rfl rfl hl.1 rfl (lv_room (Nat.le_of_ble_eq_true rfl)) dX4_finds_83 ⟨by omega, by omega⟩) hW (fun r_ u_ H locs h_ hW => ?_)
          have hW : pM G (MWl G ad (xi y 0 0) ++ W0) s _ _ := hW
          rcases h_ with ⟨rfl, h_⟩ | ⟨rfl, h_⟩
          · exact absurd h_ (fun z => ix_no hi0 (by rw [show (xi y 0 0).1 7 = nI (cC S.1).length from m8] at z; exact z))
          · refine lv_if_eq (tgt := 94) hx hb dX4_finds_86 (by decide) (fun c_86 => ?_) (fun c_86 => absurd c_86 (by decide))
            refine lv_aload_n hx hb dX4_finds_94 rfl (lv_at hl 1 rfl) ?_
            refine lv_iconst (v := 1) hx hb dX4_finds_95 (by decide) ?_
            refine cl_i (ru_V (As := [.int 1]) (rest := []) hF (mX4_refused l G ad (xi y 0 0) W0 1) (cwV 1 hts (lw_V q1255 q1257 qs29 q66 q1258) rfl rfl rfl (by decide +kernel) ⟨lb hR1 rfl, lb hR4 rfl⟩) hW (List.mem_of_getElem? (i := 0) rfl) (ci := 20) rfl rfl rfl hl.1 rfl (lv_room (Nat.le_of_ble_eq_true rfl)) dX4_finds_96 ⟨by omega, by omega⟩) hW (fun r_25 u_26 H locs h_27 hW => ?_)
            obtain ⟨rfl, rfl⟩ : r_25 = (-1) ∧ u_26 = _ := h_27
            have hW : pM G (MWl G ad (xi (xi (xi y 0 0) 1 1) 2 (-1)) ++ W0) s _ _ := hW
            exact re_i hF hRt hLk hQ (by omega) (by omega) dX4_finds_99 (xi (xi (xi y 0 0) 1 1) 2 (-1)) (by unfold findsS; rw [hi0]; exact ⟨rfl, ⟨m0, m1, m2, m3, m4, m5, m6, m7, m8, m9, m10, m11, m12, m13, m14, rfl, m16, rfl, m18, m19, m20, m21, m22⟩⟩) hW
  | some k0 =>
    obtain ⟨hk0, rfl⟩ := ix_some hi0 (by omega)
    by_cases z0 : a1 = 0
    · subst z0
      cases hi2 : ix a2 (cP S.1).length with
      | none =>
        refine lv_aload_n hx hb dX4_finds_0 rfl (lv_at hl 0 rfl) ?_
        refine lv_iconst (v := 0) hx hb dX4_finds_1 (by decide) ?_
        refine pM0_thrown hF hW q1095 dX4_finds_2 (fun H locs hW => ?_)
        have hW : pM G (MWl G ad (xi y 0 0) ++ W0) s _ _ := hW
        refine lv_iload_n hx hb dX4_finds_5 rfl (lv_at hl 2 rfl) ?_
        refine lv_if_ne (tgt := 30) hx hb dX4_finds_6 (by decide) (fun c_6 => absurd c_6 (by decide)) (fun c_6 => ?_)
        refine lv_iload_n hx hb dX4_finds_9 rfl (lv_at hl 3 rfl) ?_
        refine lv_if_lt (tgt := 30) hx hb dX4_finds_10 (by decide) (fun c_10 => ?_) (fun c_10 => ?_)
        · refine lv_iload_n hx hb dX4_finds_30 rfl (lv_at hl 2 rfl) ?_
          refine lv_iconst (v := 1) hx hb dX4_finds_31 (by decide) ?_
          refine lv_icmp_ne (tgt := 52) hx hb dX4_finds_32 (by decide) (fun c_32 => ?_) (fun c_32 => absurd c_32 (by decide))
          refine lv_iload_n hx hb dX4_finds_52 rfl (lv_at hl 2 rfl) ?_
          refine lv_iconst (v := 2) hx hb dX4_finds_53 (by decide) ?_
          refine lv_icmp_ne (tgt := 78) hx hb dX4_finds_54 (by decide) (fun c_54 => ?_) (fun c_54 => absurd c_54 (by decide))
          refine lv_null hx hb dX4_finds_78 ?_
          refine lv_astoreN (lv' := [(4, .null), (0, .ref (ad 0)), (1, .int (nI k0)), (2, .int 0), (3, .int a2)]) hx hb dX4_finds_79 hl (by decide) rfl (fun ls hl => ?_)
          refine lv_aload_n hx hb dX4_finds_81 rfl (lv_at hl 1 rfl) ?_
          refine lv_iload_n hx hb dX4_finds_82 rfl (lv_at hl 2 rfl) ?_
          refine cl_i (ru_V (As := [.int (nI k0)]) (rest := []) hF (mX4_isClaim l G ad (xi y 0 0) W0 (nI k0)) (cwV 1 hts (lw_V q1354 q1356 qs45 q66 q1357) rfl rfl rfl (by decide +kernel) ⟨lb hR1 rfl, lb hR4 rfl⟩) hW (List.mem_of_getElem? (i := 0) rfl) (ci := 20) rfl rfl rfl hl.1 rfl (lv_room (Nat.le_of_ble_eq_true rfl)) dX4_finds_83 ⟨by omega, by omega⟩) hW (fun r_ u_ H locs h_ hW => ?_)
          have hW : pM G (MWl G ad (xi y 0 0) ++ W0) s _ _ := hW
          rcases h_ with ⟨rfl, h_⟩ | ⟨rfl, h_⟩
          · refine lv_if_eq (tgt := 94) hx hb dX4_finds_86 (by decide) (fun c_86 => absurd c_86 (by decide)) (fun c_86 => ?_)
            refine lv_aloadN hx hb dX4_finds_89 (lv_at hl 0 rfl) ?_
            refine lv_ifnonnullN hx hb dX4_finds_91 ?_
            have htx : textOf S.1 0 a2 = none := by unfold textOf; rw [if_pos rfl, hi2]
            refine lv_aload_n hx hb dX4_finds_94 rfl (lv_at hl 1 rfl) ?_
            refine lv_iconst (v := 1) hx hb dX4_finds_95 (by decide) ?_
            refine cl_i (ru_V (As := [.int 1]) (rest := []) hF (mX4_refused l G ad (xi y 0 0) W0 1) (cwV 1 hts (lw_V q1255 q1257 qs29 q66 q1258) rfl rfl rfl (by decide +kernel) ⟨lb hR1 rfl, lb hR4 rfl⟩) hW (List.mem_of_getElem? (i := 0) rfl) (ci := 20) rfl rfl rfl hl.1 rfl (lv_room (Nat.le_of_ble_eq_true rfl)) dX4_finds_96 ⟨by omega, by omega⟩) hW (fun r_28 u_29 H locs h_30 hW => ?_)
            obtain ⟨rfl, rfl⟩ : r_28 = (-1) ∧ u_29 = _ := h_30
            have hW : pM G (MWl G ad (xi (xi (xi y 0 0) 1 1) 2 (-1)) ++ W0) s _ _ := hW
            exact re_i hF hRt hLk hQ (by omega) (by omega) dX4_finds_99 (xi (xi (xi y 0 0) 1 1) 2 (-1)) (by unfold findsS; rw [hi0, htx]; exact ⟨rfl, ⟨m0, m1, m2, m3, m4, m5, m6, m7, m8, m9, m10, m11, m12, m13, m14, rfl, m16, rfl, m18, m19, m20, m21, m22⟩⟩) hW
          · exact absurd ((by rw [show (xi y 0 0).1 7 = nI (cC S.1).length from m8]; exact ix_in hi0 : 0 ≤ (nI k0) ∧ (nI k0) < (xi y 0 0).1 7)) h_
        · refine lv_iload_n hx hb dX4_finds_13 rfl (lv_at hl 3 rfl) ?_
          refine lv_aload_n hx hb dX4_finds_14 rfl (lv_at hl 0 rfl) ?_
          refine gM0_papers hF hW q1100 (v := nI (cP S.1).length) (m2) dX4_finds_15 ?_
          refine lv_icmp_ge (tgt := 30) hx hb dX4_finds_18 (by decide) (fun c_18 => ?_) (fun c_18 => absurd (And.intro (Int32.not_lt.mp c_10) (Int32.not_le.mp c_18)) (ix_no hi2))
          refine lv_iload_n hx hb dX4_finds_30 rfl (lv_at hl 2 rfl) ?_
          refine lv_iconst (v := 1) hx hb dX4_finds_31 (by decide) ?_
          refine lv_icmp_ne (tgt := 52) hx hb dX4_finds_32 (by decide) (fun c_32 => ?_) (fun c_32 => absurd c_32 (by decide))
          refine lv_iload_n hx hb dX4_finds_52 rfl (lv_at hl 2 rfl) ?_
          refine lv_iconst (v := 2) hx hb dX4_finds_53 (by decide) ?_
          refine lv_icmp_ne (tgt := 78) hx hb dX4_finds_54 (by decide) (fun c_54 => ?_) (fun c_54 => absurd c_54 (by decide))
          refine lv_null hx hb dX4_finds_78 ?_
          refine lv_astoreN (lv' := [(4, .null), (0, .ref (ad 0)), (1, .int (nI k0)), (2, .int 0), (3, .int a2)]) hx hb dX4_finds_79 hl (by decide) rfl (fun ls hl => ?_)
          refine lv_aload_n hx hb dX4_finds_81 rfl (lv_at hl 1 rfl) ?_
          refine lv_iload_n hx hb dX4_finds_82 rfl (lv_at hl 2 rfl) ?_
          refine cl_i (ru_V (As := [.int (nI k0)]) (rest := []) hF (mX4_isClaim l G ad (xi y 0 0) W0 (nI k0)) (cwV 1 hts (lw_V q1354 q1356 qs45 q66 q1357) rfl rfl rfl (by decide +kernel) ⟨lb hR1 rfl, lb hR4 rfl⟩) hW (List.mem_of_getElem? (i := 0) rfl) (ci := 20) rfl rfl rfl hl.1 rfl (lv_room (Nat.le_of_ble_eq_true rfl)) dX4_finds_83 ⟨by omega, by omega⟩) hW (fun r_ u_ H locs h_ hW => ?_)
          have hW : pM G (MWl G ad (xi y 0 0) ++ W0) s _ _ := hW
          rcases h_ with ⟨rfl, h_⟩ | ⟨rfl, h_⟩
          · refine lv_if_eq (tgt := 94) hx hb dX4_finds_86 (by decide) (fun c_86 => absurd c_86 (by decide)) (fun c_86 => ?_)
            refine lv_aloadN hx hb dX4_finds_89 (lv_at hl 0 rfl) ?_
            refine lv_ifnonnullN hx hb dX4_finds_91 ?_
            have htx : textOf S.1 0 a2 = none := by unfold textOf; rw [if_pos rfl, hi2]
            refine lv_aload_n hx hb dX4_finds_94 rfl (lv_at hl 1 rfl) ?_
            refine lv_iconst (v := 1) hx hb dX4_finds_95 (by decide) ?_
            refine cl_i (ru_V (As := [.int 1]) (rest := []) hF (mX4_refused l G ad (xi y 0 0) W0 1) (cwV 1 hts (lw_V q1255 q1257 qs29 q66 q1258) rfl rfl rfl (by decide +kernel) ⟨lb hR1 rfl, lb hR4 rfl⟩) hW (List.mem_of_getElem? (i := 0) rfl) (ci := 20) rfl rfl rfl hl.1 rfl (lv_room (Nat.le_of_ble_eq_true rfl)) dX4_finds_96 ⟨by omega, by omega⟩) hW (fun r_31 u_32 H locs h_33 hW => ?_)
            obtain ⟨rfl, rfl⟩ : r_31 = (-1) ∧ u_32 = _ := h_33
            have hW : pM G (MWl G ad (xi (xi (xi y 0 0) 1 1) 2 (-1)) ++ W0) s _ _ := hW
            exact re_i hF hRt hLk hQ (by omega) (by omega) dX4_finds_99 (xi (xi (xi y 0 0) 1 1) 2 (-1)) (by unfold findsS; rw [hi0, htx]; exact ⟨rfl, ⟨m0, m1, m2, m3, m4, m5, m6, m7, m8, m9, m10, m11, m12, m13, m14, rfl, m16, rfl, m18, m19, m20, m21, m22⟩⟩) hW
          · exact absurd ((by rw [show (xi y 0 0).1 7 = nI (cC S.1).length from m8]; exact ix_in hi0 : 0 ≤ (nI k0) ∧ (nI k0) < (xi y 0 0).1 7)) h_
      | some k2 =>
        obtain ⟨hk2, rfl⟩ := ix_some hi2 (by omega)
        refine lv_aload_n hx hb dX4_finds_0 rfl (lv_at hl 0 rfl) ?_
        refine lv_iconst (v := 0) hx hb dX4_finds_1 (by decide) ?_
        refine pM0_thrown hF hW q1095 dX4_finds_2 (fun H locs hW => ?_)
        have hW : pM G (MWl G ad (xi y 0 0) ++ W0) s _ _ := hW
        refine lv_iload_n hx hb dX4_finds_5 rfl (lv_at hl 2 rfl) ?_
        refine lv_if_ne (tgt := 30) hx hb dX4_finds_6 (by decide) (fun c_6 => absurd c_6 (by decide)) (fun c_6 => ?_)
        refine lv_iload_n hx hb dX4_finds_9 rfl (lv_at hl 3 rfl) ?_
        refine lv_if_lt (tgt := 30) hx hb dX4_finds_10 (by decide) (fun c_10 => absurd c_10 (nI_pos (by omega))) (fun c_10 => ?_)
        refine lv_iload_n hx hb dX4_finds_13 rfl (lv_at hl 3 rfl) ?_
        refine lv_aload_n hx hb dX4_finds_14 rfl (lv_at hl 0 rfl) ?_
        refine gM0_papers hF hW q1100 (v := nI (cP S.1).length) (m2) dX4_finds_15 ?_
        refine lv_icmp_ge (tgt := 30) hx hb dX4_finds_18 (by decide) (fun c_18 => absurd (le_le c_18) (by omega)) (fun c_18 => ?_)
        refine lv_aload_n hx hb dX4_finds_21 rfl (lv_at hl 0 rfl) ?_
        refine gM0_paper hF hW q1107 dX4_finds_22 ?_
        refine lv_iload_n hx hb dX4_finds_25 rfl (lv_at hl 3 rfl) ?_
        obtain ⟨qb, hqb1, hqb2⟩ := (m3 k2 hk2).1
        refine lM3 hF hW (j := k2) (rfl) (by omega) (r := qb) (hqb1) dX4_finds_26 ?_
        refine lv_goto (tgt := 79) hx hb dX4_finds_27 (by decide) ?_
        refine lv_astore (lv' := [(4, .ref qb), (0, .ref (ad 0)), (1, .int (nI k0)), (2, .int 0), (3, .int (nI k2))]) hx hb dX4_finds_79 hl (by decide) rfl (fun ls hl => ?_)
        refine lv_aload_n hx hb dX4_finds_81 rfl (lv_at hl 1 rfl) ?_
        refine lv_iload_n hx hb dX4_finds_82 rfl (lv_at hl 2 rfl) ?_
        refine cl_i (ru_V (As := [.int (nI k0)]) (rest := []) hF (mX4_isClaim l G ad (xi y 0 0) W0 (nI k0)) (cwV 1 hts (lw_V q1354 q1356 qs45 q66 q1357) rfl rfl rfl (by decide +kernel) ⟨lb hR1 rfl, lb hR4 rfl⟩) hW (List.mem_of_getElem? (i := 0) rfl) (ci := 20) rfl rfl rfl hl.1 rfl (lv_room (Nat.le_of_ble_eq_true rfl)) dX4_finds_83 ⟨by omega, by omega⟩) hW (fun r_ u_ H locs h_ hW => ?_)
        have hW : pM G (MWl G ad (xi y 0 0) ++ W0) s _ _ := hW
        rcases h_ with ⟨rfl, h_⟩ | ⟨rfl, h_⟩
        · refine lv_if_eq (tgt := 94) hx hb dX4_finds_86 (by decide) (fun c_86 => absurd c_86 (by decide)) (fun c_86 => ?_)
          refine lv_aload hx hb dX4_finds_89 (lv_at hl 0 rfl) ?_
          refine lv_ifnonnull (tgt := 100) hx hb dX4_finds_91 (by decide) ?_
          refine lv_aload_n hx hb dX4_finds_100 rfl (lv_at hl 1 rfl) ?_
          refine lv_aload_n hx hb dX4_finds_101 rfl (lv_at hl 1 rfl) ?_
          refine gM0_claim hF hW q1110 dX4_finds_102 ?_
          refine lv_iload_n hx hb dX4_finds_105 rfl (lv_at hl 2 rfl) ?_
          obtain ⟨qc, hqc1, hqc2⟩ := (m9 k0 hk0).1
          refine lM6 hF hW (j := k0) (rfl) (by omega) (r := qc) (hqc1) dX4_finds_106 ?_
          refine lv_aload hx hb dX4_finds_107 (lv_at hl 0 rfl) ?_
          refine lv_ldcw hx hb hF.2.2.2.1 (hts _ q1423) dX4_finds_109 ?_
          have htx : textOf S.1 0 (nI k2) = some ((cP S.1).getD k2 dP).1 := by unfold textOf; rw [if_pos rfl, hi2]
          have hokc := (hI.2.2.2.2.1.2 k0 hk0).1.wide
          have hokb := (hI.2.1.2 _ (getD_mem (d := dP) hk2)).1
          have hW : pM G (MWl G ad (mfx (xi y 0 0) ((xi y 0 0).1 17) ((xi y 0 0).2.1 14) ((xi y 0 0).2.1 15)) ++ W0) s _ _ := hW
          refine cl_i (ru_V (As := [.ref qc, .ref qb, .int 2147483647]) (rest := []) hF (mX4_waysOf_false l G ad (xi y 0 0) W0 ((xi y 0 0).1 17) ((xi y 0 0).2.1 14) ((xi y 0 0).2.1 15) qc qb ((cC S.1).getD k0 dC).1 ((cP S.1).getD k2 dP).1 (hqc2.u.mono hT) (hqb2.u.mono hT) (cW S.1).length (WdOk.cg m1.2 (wdF_ok hI)) b0 hokc hokb) (cwV 3 hts (lw_V q1366 q1368 qs47 q66 q1369) rfl rfl rfl (by decide +kernel) ⟨lb hR1 rfl, lb hR4 rfl⟩) hW (List.mem_of_getElem? (i := 0) rfl) (ci := 20) rfl rfl rfl hl.1 rfl (lv_room (Nat.le_of_ble_eq_true rfl)) dX4_finds_112 ⟨by omega, by omega⟩) hW (fun r_ u_ H locs h_ hW => ?_)
          obtain ⟨w2, go2, fi2⟩ := u_
          have eS : solsF (y.2.1 0) ((cC S.1).getD k0 dC).1 ((cP S.1).getD k2 dP).1 (2 ^ ((cC S.1).getD k0 dC).1.1.length - 1) ((cC S.1).getD k0 dC).1.1.length [] = waysA S.1 ((cC S.1).getD k0 dC).1 ((cP S.1).getD k2 dP).1 := sols_cg (wd := wdF S.1) m1.2 (wdF_ok hI) b0 hokb _ _
          obtain ⟨r1, r2⟩ := h_
          obtain rfl : r_ = nI (waysA S.1 ((cC S.1).getD k0 dC).1 ((cP S.1).getD k2 dP).1).length := r1.trans (by show nI (wC false 0 (solsF (y.2.1 0) ((cC S.1).getD k0 dC).1 ((cP S.1).getD k2 dP).1 (2 ^ ((cC S.1).getD k0 dC).1.1.length - 1) ((cC S.1).getD k0 dC).1.1.length []).length) = _; rw [eS]; unfold wC; simp)
          have r2 : ∀ j, j < ((cC S.1).getD k0 dC).1.1.length → fi2 j = fiF 0 (y.2.1 15) (waysA S.1 ((cC S.1).getD k0 dC).1 ((cP S.1).getD k2 dP).1) j := by rw [← eS]; exact r2
          have hwl : (waysA S.1 ((cC S.1).getD k0 dC).1 ((cP S.1).getD k2 dP).1).length ≤ 16777216 := waysA_len hokc.2.2.1 hokb.2.2.1
          have ha8 := hokc.2.2.1
          have hW : pM G (MWl G ad (mfx (xi y 0 0) w2 go2 fi2) ++ W0) s _ _ := hW
          refine lv_istore (lv' := [(5, .int (nI (waysA S.1 ((cC S.1).getD k0 dC).1 ((cP S.1).getD k2 dP).1).length)), (4, .ref qb), (0, .ref (ad 0)), (1, .int (nI k0)), (2, .int 0), (3, .int (nI k2))]) hx hb dX4_finds_115 hl (by decide) rfl (fun ls hl => ?_)
          refine lv_aload_n hx hb dX4_finds_117 rfl (lv_at hl 2 rfl) ?_
          refine lv_iload hx hb dX4_finds_118 (lv_at hl 0 rfl) ?_
          refine lv_if_ne (tgt := 127) hx hb dX4_finds_120 (by decide) (fun c_120 => ?_) (fun c_120 => ?_)
          · have hne : ¬ (waysA S.1 ((cC S.1).getD k0 dC).1 ((cP S.1).getD k2 dP).1).length = 0 := fun z => c_120 (by rw [z]; rfl)
            refine lv_aload_n hx hb dX4_finds_127 rfl (lv_at hl 2 rfl) ?_
            refine gM0_claim hF hW q1110 dX4_finds_128 ?_
            refine lv_iload_n hx hb dX4_finds_131 rfl (lv_at hl 3 rfl) ?_
            obtain ⟨an9, aw9, af9, av9, at9, nf9, wf9, ff9, vf9, tf9, hq3, -⟩ := id hqc2
            have hq3 := hT _ hq3
            refine lM6 hF hW (j := k0) (rfl) (by omega) (r := qc) (hqc1) dX4_finds_132 ?_
            refine gtN hF hW (ms_r hq3) (ci := 22) rfl in_X6 0 (by decide) (List.mem_of_getElem? (i := 7) rfl) rfl (v := .int (nI ((cC S.1).getD k0 dC).1.1.length)) rfl dX4_finds_133 ?_
            refine pM0_wayParts hF hW q1137 dX4_finds_136 (fun H locs hW => ?_)
            have hW : pM G (MWl G ad (xi (mfx (xi y 0 0) w2 go2 fi2) 18 (nI ((cC S.1).getD k0 dC).1.1.length)) ++ W0) s _ _ := hW
            have hW : pM G (MWl G ad (mfx (xa (xi (xi y 0 0) 18 (nI ((cC S.1).getD k0 dC).1.1.length)) 16 (y.2.1 16)) w2 go2 fi2) ++ W0) s _ _ := hW
            refine lv_iconst (v := 0) hx hb dX4_finds_139 (by decide) ?_
            refine lv_istore (lv' := [(6, .int 0), (5, .int (nI (waysA S.1 ((cC S.1).getD k0 dC).1 ((cP S.1).getD k2 dP).1).length)), (4, .ref qb), (0, .ref (ad 0)), (1, .int (nI k0)), (2, .int 0), (3, .int (nI k2))]) hx hb dX4_finds_140 hl (by decide) rfl (fun ls hl => ?_)
            have loop_142 : ∀ (nn : Nat) (k : Nat) (f9 : Nat → Int32) (H : Heap) (locs : List Loc) (ls : Array Slot), ((cC S.1).getD k0 dC).1.1.length - k < nn → (k ≤ ((cC S.1).getD k0 dC).1.1.length) → (∀ j, j < k → f9 j = fi2 j) → pM G (MWl G ad (mfx (xa (xi (xi y 0 0) 18 (nI ((cC S.1).getD k0 dC).1.1.length)) 16 f9) w2 go2 fi2) ++ W0) s H locs → lv_has ls 7 [(0, .ref (ad 0)), (5, .int (nI (waysA S.1 ((cC S.1).getD k0 dC).1 ((cP S.1).getD k2 dP).1).length)), (6, .int (nI k))] → W pp l ee R s m ([.ref (ad 0), .int (nI k0), .int 0, .int (nI k2)] : List Value).toArray below meth c H locs ((0 + 0) + 0) ((0 + 0) + 0) Q (F0 m 142 ls []) := by
              intro nn
              induction nn with
              | zero => intro k f9 H locs ls hm; exact absurd hm (Nat.not_lt_zero _)
              | succ nn ih =>
                intro k f9 H locs ls hm hk hf9 hW hl
                refine lv_iload hx hb dX4_finds_142 (lv_at hl 2 rfl) ?_
                refine lv_aload_n hx hb dX4_finds_144 rfl (lv_at hl 0 rfl) ?_
                refine gM0_wayParts hF hW q1137 (v := nI ((cC S.1).getD k0 dC).1.1.length) (rfl) dX4_finds_145 ?_
                refine lv_icmp_ge (tgt := 171) hx hb dX4_finds_148 (by decide) (fun c_148 => ?_) (fun c_148 => ?_)
                · obtain ⟨A9, S9, hA9⟩ : ∃ A S9, waysA S.1 ((cC S.1).getD k0 dC).1 ((cP S.1).getD k2 dP).1 = A :: S9 := by cases h : waysA S.1 ((cC S.1).getD k0 dC).1 ((cP S.1).getD k2 dP).1 with | nil => rw [h] at hne; exact absurd rfl hne | cons A S9 => exact ⟨A, S9, rfl⟩
                  obtain ⟨q1, q2⟩ := way_r hA9 (fun j hj => hf9 j (by have := le_le c_148; omega)) r2
                  refine lv_aload_n hx hb dX4_finds_171 rfl (lv_at hl 0 rfl) ?_
                  refine lv_iload hx hb dX4_finds_172 (lv_at hl 1 rfl) ?_
                  refine cl_i (ru_V (As := [.int (nI (waysA S.1 ((cC S.1).getD k0 dC).1 ((cP S.1).getD k2 dP).1).length)]) (rest := []) hF (mX4_done l G ad (mfx (xa (xi (xi y 0 0) 18 (nI ((cC S.1).getD k0 dC).1.1.length)) 16 f9) w2 go2 fi2) W0 (nI (waysA S.1 ((cC S.1).getD k0 dC).1 ((cP S.1).getD k2 dP).1).length)) (cwV 1 hts (lw_V q1287 q1289 qs36 q66 q1290) rfl rfl rfl (by decide +kernel) ⟨lb hR1 rfl, lb hR4 rfl⟩) hW (List.mem_of_getElem? (i := 0) rfl) (ci := 20) rfl rfl rfl hl.1 rfl (lv_room (Nat.le_of_ble_eq_true rfl)) dX4_finds_174 ⟨by omega, by omega⟩) hW (fun r_34 u_35 H locs h_36 hW => ?_)
                  obtain ⟨rfl, rfl⟩ : r_34 = nI (waysA S.1 ((cC S.1).getD k0 dC).1 ((cP S.1).getD k2 dP).1).length ∧ u_35 = _ := h_36
                  have hW : pM G (MWl G ad (xi (xi (mfx (xa (xi (xi y 0 0) 18 (nI ((cC S.1).getD k0 dC).1.1.length)) 16 f9) w2 go2 fi2) 1 0) 2 (-1)) ++ W0) s _ _ := hW
                  exact re_i hF hRt hLk hQ (by omega) (by omega) dX4_finds_177 (xi (xi (mfx (xa (xi (xi y 0 0) 18 (nI ((cC S.1).getD k0 dC).1.1.length)) 16 f9) w2 go2 fi2) 1 0) 2 (-1)) (by unfold findsS; rw [hi0, htx]; exact ⟨rfl, ⟨m0, m1, m2, m3, m4, m5, m6, m7, m8, m9, m10, m11, m12, m13, m14, rfl, m16, rfl, m18, q1, q2, m21, m22⟩⟩) hW
                · have hkl : k < ((cC S.1).getD k0 dC).1.1.length := nle_lt c_148
                  refine lv_aload_n hx hb dX4_finds_151 rfl (lv_at hl 0 rfl) ?_
                  refine gM0_told hF hW q1138 dX4_finds_152 ?_
                  refine lv_iload hx hb dX4_finds_155 (lv_at hl 2 rfl) ?_
                  refine lv_aload_n hx hb dX4_finds_157 rfl (lv_at hl 0 rfl) ?_
                  refine gM0_firstWay hF hW q1135 dX4_finds_158 ?_
                  refine lv_iload hx hb dX4_finds_161 (lv_at hl 2 rfl) ?_
                  refine lM23 hF hW (j := k) (rfl) (by omega) (v := fi2 k) (rfl) dX4_finds_163 ?_
                  refine sM24 hF hW (j := k) (rfl) (by omega) dX4_finds_164 (fun H locs hW => ?_)
                  have hW : pM G (MWl G ad (xa (mfx (xa (xi (xi y 0 0) 18 (nI ((cC S.1).getD k0 dC).1.1.length)) 16 f9) w2 go2 fi2) 16 (va_up ((mfx (xa (xi (xi y 0 0) 18 (nI ((cC S.1).getD k0 dC).1.1.length)) 16 f9) w2 go2 fi2).2.1 16) k (fi2 k))) ++ W0) s _ _ := hW
                  have hW : pM G (MWl G ad (mfx (xa (xi (xi y 0 0) 18 (nI ((cC S.1).getD k0 dC).1.1.length)) 16 (va_up f9 k (fi2 k))) w2 go2 fi2) ++ W0) s _ _ := hW
                  refine lv_iinc (v := nI (k + 1)) (lv' := [(6, .int (nI (k + 1))), (0, .ref (ad 0)), (5, .int (nI (waysA S.1 ((cC S.1).getD k0 dC).1 ((cP S.1).getD k2 dP).1).length))]) hx hb dX4_finds_165 hl (k := 2) rfl (nI_1 _) (by decide) rfl (fun ls hl => ?_)
                  refine lv_goto (tgt := 142) hx hb dX4_finds_168 (by decide) ?_
                  exact ih (k + 1) (va_up f9 k (fi2 k)) H locs ls (by have := nle_lt c_148; omega) (by have := nle_lt c_148; omega) (fun j hj => if h : j = k then by rw [h, up_s] else by rw [up_n h]; exact hf9 j (by omega)) hW (lv_sub hl [1, 2, 0] rfl)
            exact loop_142 _ 0 (y.2.1 16) _ _ _ (Nat.lt_succ_self _) (Nat.zero_le _) (fun j hj => absurd hj (Nat.not_lt_zero _)) hW (lv_sub hl [3, 1, 0] rfl)
          · have hz : (waysA S.1 ((cC S.1).getD k0 dC).1 ((cP S.1).getD k2 dP).1).length = 0 := eq_eq (b := 0) c_120
            have hnil := List.length_eq_zero_iff.mp hz
            refine lv_iconst (v := 0) hx hb dX4_finds_123 (by decide) ?_
            refine lv_goto (tgt := 136) hx hb dX4_finds_124 (by decide) ?_
            refine pM0_wayParts hF hW q1137 dX4_finds_136 (fun H locs hW => ?_)
            have hW : pM G (MWl G ad (xi (mfx (xi y 0 0) w2 go2 fi2) 18 0) ++ W0) s _ _ := hW
            refine lv_iconst (v := 0) hx hb dX4_finds_139 (by decide) ?_
            refine lv_istore (lv' := [(6, .int 0), (5, .int (nI (waysA S.1 ((cC S.1).getD k0 dC).1 ((cP S.1).getD k2 dP).1).length)), (4, .ref qb), (0, .ref (ad 0)), (1, .int (nI k0)), (2, .int 0), (3, .int (nI k2))]) hx hb dX4_finds_140 hl (by decide) rfl (fun ls hl => ?_)
            refine lv_iload hx hb dX4_finds_142 (lv_at hl 0 rfl) ?_
            refine lv_aload_n hx hb dX4_finds_144 rfl (lv_at hl 3 rfl) ?_
            refine gM0_wayParts hF hW q1137 (v := 0) (rfl) dX4_finds_145 ?_
            refine lv_icmp_ge (tgt := 171) hx hb dX4_finds_148 (by decide) (fun c_148 => ?_) (fun c_148 => absurd c_148 (by decide))
            refine lv_aload_n hx hb dX4_finds_171 rfl (lv_at hl 3 rfl) ?_
            refine lv_iload hx hb dX4_finds_172 (lv_at hl 1 rfl) ?_
            refine cl_i (ru_V (As := [.int (nI (waysA S.1 ((cC S.1).getD k0 dC).1 ((cP S.1).getD k2 dP).1).length)]) (rest := []) hF (mX4_done l G ad (xi (mfx (xi y 0 0) w2 go2 fi2) 18 0) W0 (nI (waysA S.1 ((cC S.1).getD k0 dC).1 ((cP S.1).getD k2 dP).1).length)) (cwV 1 hts (lw_V q1287 q1289 qs36 q66 q1290) rfl rfl rfl (by decide +kernel) ⟨lb hR1 rfl, lb hR4 rfl⟩) hW (List.mem_of_getElem? (i := 0) rfl) (ci := 20) rfl rfl rfl hl.1 rfl (lv_room (Nat.le_of_ble_eq_true rfl)) dX4_finds_174 ⟨by omega, by omega⟩) hW (fun r_37 u_38 H locs h_39 hW => ?_)
            obtain ⟨rfl, rfl⟩ : r_37 = nI (waysA S.1 ((cC S.1).getD k0 dC).1 ((cP S.1).getD k2 dP).1).length ∧ u_38 = _ := h_39
            have hW : pM G (MWl G ad (xi (xi (xi (mfx (xi y 0 0) w2 go2 fi2) 1 0) 2 (-1)) 18 0) ++ W0) s _ _ := hW
            exact re_i hF hRt hLk hQ (by omega) (by omega) dX4_finds_177 (xi (xi (xi (mfx (xi y 0 0) w2 go2 fi2) 1 0) 2 (-1)) 18 0) (by unfold findsS; rw [hi0, htx]; exact ⟨rfl, ⟨m0, m1, m2, m3, m4, m5, m6, m7, m8, m9, m10, m11, m12, m13, m14, rfl, m16, rfl, m18, (show (0 : Int32) = nI (wayL (waysA S.1 ((cC S.1).getD k0 dC).1 ((cP S.1).getD k2 dP).1)).length by rw [hnil]; rfl), (show LstR (y.2.1 16) (wayL (waysA S.1 ((cC S.1).getD k0 dC).1 ((cP S.1).getD k2 dP).1)) by rw [hnil]; exact fun j hj => absurd hj (Nat.not_lt_zero _)), m21, m22⟩⟩) hW
        · exact absurd ((by rw [show (xi y 0 0).1 7 = nI (cC S.1).length from m8]; exact ix_in hi0 : 0 ≤ (nI k0) ∧ (nI k0) < (xi y 0 0).1 7)) h_
    · by_cases z1 : a1 = 1
      · subst z1
        cases hi2 : ix a2 (cF S.1).length with
        | none =>
          refine lv_aload_n hx hb dX4_finds_0 rfl (lv_at hl 0 rfl) ?_
          refine lv_iconst (v := 0) hx hb dX4_finds_1 (by decide) ?_
          refine pM0_thrown hF hW q1095 dX4_finds_2 (fun H locs hW => ?_)
          have hW : pM G (MWl G ad (xi y 0 0) ++ W0) s _ _ := hW
          refine lv_iload_n hx hb dX4_finds_5 rfl (lv_at hl 2 rfl) ?_
          refine lv_if_ne (tgt := 30) hx hb dX4_finds_6 (by decide) (fun c_6 => ?_) (fun c_6 => absurd c_6 (by decide))
          refine lv_iload_n hx hb dX4_finds_30 rfl (lv_at hl 2 rfl) ?_
          refine lv_iconst (v := 1) hx hb dX4_finds_31 (by decide) ?_
          refine lv_icmp_ne (tgt := 52) hx hb dX4_finds_32 (by decide) (fun c_32 => absurd c_32 (by decide)) (fun c_32 => ?_)
          refine lv_aload_n hx hb dX4_finds_35 rfl (lv_at hl 0 rfl) ?_
          refine lv_iload_n hx hb dX4_finds_36 rfl (lv_at hl 3 rfl) ?_
          refine cl_i (ru_V (As := [.int a2]) (rest := []) hF (mX4_isFile l G ad (xi y 0 0) W0 a2) (cwV 1 hts (lw_V q1346 q1348 qs44 q66 q1349) rfl rfl rfl (by decide +kernel) ⟨lb hR1 rfl, lb hR4 rfl⟩) hW (List.mem_of_getElem? (i := 0) rfl) (ci := 20) rfl rfl rfl hl.1 rfl (lv_room (Nat.le_of_ble_eq_true rfl)) dX4_finds_37 ⟨by omega, by omega⟩) hW (fun r_ u_ H locs h_ hW => ?_)
          have hW : pM G (MWl G ad (xi y 0 0) ++ W0) s _ _ := hW
          rcases h_ with ⟨rfl, h_⟩ | ⟨rfl, h_⟩
          · exact absurd h_ (fun z => ix_no hi2 (by rw [show (xi y 0 0).1 6 = nI (cF S.1).length from m4] at z; exact z))
          · refine lv_if_eq (tgt := 52) hx hb dX4_finds_40 (by decide) (fun c_40 => ?_) (fun c_40 => absurd c_40 (by decide))
            refine lv_iload_n hx hb dX4_finds_52 rfl (lv_at hl 2 rfl) ?_
            refine lv_iconst (v := 2) hx hb dX4_finds_53 (by decide) ?_
            refine lv_icmp_ne (tgt := 78) hx hb dX4_finds_54 (by decide) (fun c_54 => ?_) (fun c_54 => absurd c_54 (by decide))
            refine lv_null hx hb dX4_finds_78 ?_
            refine lv_astoreN (lv' := [(4, .null), (0, .ref (ad 0)), (1, .int (nI k0)), (2, .int 1), (3, .int a2)]) hx hb dX4_finds_79 hl (by decide) rfl (fun ls hl => ?_)
            refine lv_aload_n hx hb dX4_finds_81 rfl (lv_at hl 1 rfl) ?_
            refine lv_iload_n hx hb dX4_finds_82 rfl (lv_at hl 2 rfl) ?_
            refine cl_i (ru_V (As := [.int (nI k0)]) (rest := []) hF (mX4_isClaim l G ad (xi y 0 0) W0 (nI k0)) (cwV 1 hts (lw_V q1354 q1356 qs45 q66 q1357) rfl rfl rfl (by decide +kernel) ⟨lb hR1 rfl, lb hR4 rfl⟩) hW (List.mem_of_getElem? (i := 0) rfl) (ci := 20) rfl rfl rfl hl.1 rfl (lv_room (Nat.le_of_ble_eq_true rfl)) dX4_finds_83 ⟨by omega, by omega⟩) hW (fun r_ u_ H locs h_ hW => ?_)
            have hW : pM G (MWl G ad (xi y 0 0) ++ W0) s _ _ := hW
            rcases h_ with ⟨rfl, h_⟩ | ⟨rfl, h_⟩
            · refine lv_if_eq (tgt := 94) hx hb dX4_finds_86 (by decide) (fun c_86 => absurd c_86 (by decide)) (fun c_86 => ?_)
              refine lv_aloadN hx hb dX4_finds_89 (lv_at hl 0 rfl) ?_
              refine lv_ifnonnullN hx hb dX4_finds_91 ?_
              have htx : textOf S.1 1 a2 = none := by unfold textOf; rw [if_neg (by decide), if_pos rfl, hi2]
              refine lv_aload_n hx hb dX4_finds_94 rfl (lv_at hl 1 rfl) ?_
              refine lv_iconst (v := 1) hx hb dX4_finds_95 (by decide) ?_
              refine cl_i (ru_V (As := [.int 1]) (rest := []) hF (mX4_refused l G ad (xi y 0 0) W0 1) (cwV 1 hts (lw_V q1255 q1257 qs29 q66 q1258) rfl rfl rfl (by decide +kernel) ⟨lb hR1 rfl, lb hR4 rfl⟩) hW (List.mem_of_getElem? (i := 0) rfl) (ci := 20) rfl rfl rfl hl.1 rfl (lv_room (Nat.le_of_ble_eq_true rfl)) dX4_finds_96 ⟨by omega, by omega⟩) hW (fun r_40 u_41 H locs h_42 hW => ?_)
              obtain ⟨rfl, rfl⟩ : r_40 = (-1) ∧ u_41 = _ := h_42
              have hW : pM G (MWl G ad (xi (xi (xi y 0 0) 1 1) 2 (-1)) ++ W0) s _ _ := hW
              exact re_i hF hRt hLk hQ (by omega) (by omega) dX4_finds_99 (xi (xi (xi y 0 0) 1 1) 2 (-1)) (by unfold findsS; rw [hi0, htx]; exact ⟨rfl, ⟨m0, m1, m2, m3, m4, m5, m6, m7, m8, m9, m10, m11, m12, m13, m14, rfl, m16, rfl, m18, m19, m20, m21, m22⟩⟩) hW
            · exact absurd ((by rw [show (xi y 0 0).1 7 = nI (cC S.1).length from m8]; exact ix_in hi0 : 0 ≤ (nI k0) ∧ (nI k0) < (xi y 0 0).1 7)) h_
        | some k2 =>
          obtain ⟨hk2, rfl⟩ := ix_some hi2 (by omega)
          refine lv_aload_n hx hb dX4_finds_0 rfl (lv_at hl 0 rfl) ?_
          refine lv_iconst (v := 0) hx hb dX4_finds_1 (by decide) ?_
          refine pM0_thrown hF hW q1095 dX4_finds_2 (fun H locs hW => ?_)
          have hW : pM G (MWl G ad (xi y 0 0) ++ W0) s _ _ := hW
          refine lv_iload_n hx hb dX4_finds_5 rfl (lv_at hl 2 rfl) ?_
          refine lv_if_ne (tgt := 30) hx hb dX4_finds_6 (by decide) (fun c_6 => ?_) (fun c_6 => absurd c_6 (by decide))
          refine lv_iload_n hx hb dX4_finds_30 rfl (lv_at hl 2 rfl) ?_
          refine lv_iconst (v := 1) hx hb dX4_finds_31 (by decide) ?_
          refine lv_icmp_ne (tgt := 52) hx hb dX4_finds_32 (by decide) (fun c_32 => absurd c_32 (by decide)) (fun c_32 => ?_)
          refine lv_aload_n hx hb dX4_finds_35 rfl (lv_at hl 0 rfl) ?_
          refine lv_iload_n hx hb dX4_finds_36 rfl (lv_at hl 3 rfl) ?_
          refine cl_i (ru_V (As := [.int (nI k2)]) (rest := []) hF (mX4_isFile l G ad (xi y 0 0) W0 (nI k2)) (cwV 1 hts (lw_V q1346 q1348 qs44 q66 q1349) rfl rfl rfl (by decide +kernel) ⟨lb hR1 rfl, lb hR4 rfl⟩) hW (List.mem_of_getElem? (i := 0) rfl) (ci := 20) rfl rfl rfl hl.1 rfl (lv_room (Nat.le_of_ble_eq_true rfl)) dX4_finds_37 ⟨by omega, by omega⟩) hW (fun r_ u_ H locs h_ hW => ?_)
          have hW : pM G (MWl G ad (xi y 0 0) ++ W0) s _ _ := hW
          rcases h_ with ⟨rfl, h_⟩ | ⟨rfl, h_⟩
          · refine lv_if_eq (tgt := 52) hx hb dX4_finds_40 (by decide) (fun c_40 => absurd c_40 (by decide)) (fun c_40 => ?_)
            refine lv_aload_n hx hb dX4_finds_43 rfl (lv_at hl 0 rfl) ?_
            refine gM0_file hF hW q1108 dX4_finds_44 ?_
            refine lv_iload_n hx hb dX4_finds_47 rfl (lv_at hl 3 rfl) ?_
            obtain ⟨qb, hqb1, hqb2⟩ := (m5 k2 hk2).1
            refine lM4 hF hW (j := k2) (rfl) (by omega) (r := qb) (hqb1) dX4_finds_48 ?_
            refine lv_goto (tgt := 79) hx hb dX4_finds_49 (by decide) ?_
            refine lv_astore (lv' := [(4, .ref qb), (0, .ref (ad 0)), (1, .int (nI k0)), (2, .int 1), (3, .int (nI k2))]) hx hb dX4_finds_79 hl (by decide) rfl (fun ls hl => ?_)
            refine lv_aload_n hx hb dX4_finds_81 rfl (lv_at hl 1 rfl) ?_
            refine lv_iload_n hx hb dX4_finds_82 rfl (lv_at hl 2 rfl) ?_
            refine cl_i (ru_V (As := [.int (nI k0)]) (rest := []) hF (mX4_isClaim l G ad (xi y 0 0) W0 (nI k0)) (cwV 1 hts (lw_V q1354 q1356 qs45 q66 q1357) rfl rfl rfl (by decide +kernel) ⟨lb hR1 rfl, lb hR4 rfl⟩) hW (List.mem_of_getElem? (i := 0) rfl) (ci := 20) rfl rfl rfl hl.1 rfl (lv_room (Nat.le_of_ble_eq_true rfl)) dX4_finds_83 ⟨by omega, by omega⟩) hW (fun r_ u_ H locs h_ hW => ?_)
            have hW : pM G (MWl G ad (xi y 0 0) ++ W0) s _ _ := hW
            rcases h_ with ⟨rfl, h_⟩ | ⟨rfl, h_⟩
            · refine lv_if_eq (tgt := 94) hx hb dX4_finds_86 (by decide) (fun c_86 => absurd c_86 (by decide)) (fun c_86 => ?_)
              refine lv_aload hx hb dX4_finds_89 (lv_at hl 0 rfl) ?_
              refine lv_ifnonnull (tgt := 100) hx hb dX4_finds_91 (by decide) ?_
              refine lv_aload_n hx hb dX4_finds_100 rfl (lv_at hl 1 rfl) ?_
              refine lv_aload_n hx hb dX4_finds_101 rfl (lv_at hl 1 rfl) ?_
              refine gM0_claim hF hW q1110 dX4_finds_102 ?_
              refine lv_iload_n hx hb dX4_finds_105 rfl (lv_at hl 2 rfl) ?_
              obtain ⟨qc, hqc1, hqc2⟩ := (m9 k0 hk0).1
              refine lM6 hF hW (j := k0) (rfl) (by omega) (r := qc) (hqc1) dX4_finds_106 ?_
              refine lv_aload hx hb dX4_finds_107 (lv_at hl 0 rfl) ?_
              refine lv_ldcw hx hb hF.2.2.2.1 (hts _ q1423) dX4_finds_109 ?_
              have htx : textOf S.1 1 (nI k2) = some ((cF S.1).getD k2 dF).1 := by unfold textOf; rw [if_neg (by decide), if_pos rfl, hi2]
              have hokc := (hI.2.2.2.2.1.2 k0 hk0).1.wide
              have hokb := (hI.2.2.1.2 k2 hk2).1
              have hW : pM G (MWl G ad (mfx (xi y 0 0) ((xi y 0 0).1 17) ((xi y 0 0).2.1 14) ((xi y 0 0).2.1 15)) ++ W0) s _ _ := hW
              refine cl_i (ru_V (As := [.ref qc, .ref qb, .int 2147483647]) (rest := []) hF (mX4_waysOf_false l G ad (xi y 0 0) W0 ((xi y 0 0).1 17) ((xi y 0 0).2.1 14) ((xi y 0 0).2.1 15) qc qb ((cC S.1).getD k0 dC).1 ((cF S.1).getD k2 dF).1 (hqc2.u.mono hT) (hqb2.u.mono hT) (cW S.1).length (WdOk.cg m1.2 (wdF_ok hI)) b0 hokc hokb) (cwV 3 hts (lw_V q1366 q1368 qs47 q66 q1369) rfl rfl rfl (by decide +kernel) ⟨lb hR1 rfl, lb hR4 rfl⟩) hW (List.mem_of_getElem? (i := 0) rfl) (ci := 20) rfl rfl rfl hl.1 rfl (lv_room (Nat.le_of_ble_eq_true rfl)) dX4_finds_112 ⟨by omega, by omega⟩) hW (fun r_ u_ H locs h_ hW => ?_)
              obtain ⟨w2, go2, fi2⟩ := u_
              have eS : solsF (y.2.1 0) ((cC S.1).getD k0 dC).1 ((cF S.1).getD k2 dF).1 (2 ^ ((cC S.1).getD k0 dC).1.1.length - 1) ((cC S.1).getD k0 dC).1.1.length [] = waysA S.1 ((cC S.1).getD k0 dC).1 ((cF S.1).getD k2 dF).1 := sols_cg (wd := wdF S.1) m1.2 (wdF_ok hI) b0 hokb _ _
              obtain ⟨r1, r2⟩ := h_
              obtain rfl : r_ = nI (waysA S.1 ((cC S.1).getD k0 dC).1 ((cF S.1).getD k2 dF).1).length := r1.trans (by show nI (wC false 0 (solsF (y.2.1 0) ((cC S.1).getD k0 dC).1 ((cF S.1).getD k2 dF).1 (2 ^ ((cC S.1).getD k0 dC).1.1.length - 1) ((cC S.1).getD k0 dC).1.1.length []).length) = _; rw [eS]; unfold wC; simp)
              have r2 : ∀ j, j < ((cC S.1).getD k0 dC).1.1.length → fi2 j = fiF 0 (y.2.1 15) (waysA S.1 ((cC S.1).getD k0 dC).1 ((cF S.1).getD k2 dF).1) j := by rw [← eS]; exact r2
              have hwl : (waysA S.1 ((cC S.1).getD k0 dC).1 ((cF S.1).getD k2 dF).1).length ≤ 16777216 := waysA_len hokc.2.2.1 hokb.2.2.1
              have ha8 := hokc.2.2.1
              have hW : pM G (MWl G ad (mfx (xi y 0 0) w2 go2 fi2) ++ W0) s _ _ := hW
              refine lv_istore (lv' := [(5, .int (nI (waysA S.1 ((cC S.1).getD k0 dC).1 ((cF S.1).getD k2 dF).1).length)), (4, .ref qb), (0, .ref (ad 0)), (1, .int (nI k0)), (2, .int 1), (3, .int (nI k2))]) hx hb dX4_finds_115 hl (by decide) rfl (fun ls hl => ?_)
              refine lv_aload_n hx hb dX4_finds_117 rfl (lv_at hl 2 rfl) ?_
              refine lv_iload hx hb dX4_finds_118 (lv_at hl 0 rfl) ?_
              refine lv_if_ne (tgt := 127) hx hb dX4_finds_120 (by decide) (fun c_120 => ?_) (fun c_120 => ?_)
              · have hne : ¬ (waysA S.1 ((cC S.1).getD k0 dC).1 ((cF S.1).getD k2 dF).1).length = 0 := fun z => c_120 (by rw [z]; rfl)
                refine lv_aload_n hx hb dX4_finds_127 rfl (lv_at hl 2 rfl) ?_
                refine gM0_claim hF hW q1110 dX4_finds_128 ?_
                refine lv_iload_n hx hb dX4_finds_131 rfl (lv_at hl 3 rfl) ?_
                obtain ⟨an9, aw9, af9, av9, at9, nf9, wf9, ff9, vf9, tf9, hq3, -⟩ := id hqc2
                have hq3 := hT _ hq3
                refine lM6 hF hW (j := k0) (rfl) (by omega) (r := qc) (hqc1) dX4_finds_132 ?_
                refine gtN hF hW (ms_r hq3) (ci := 22) rfl in_X6 0 (by decide) (List.mem_of_getElem? (i := 7) rfl) rfl (v := .int (nI ((cC S.1).getD k0 dC).1.1.length)) rfl dX4_finds_133 ?_
                refine pM0_wayParts hF hW q1137 dX4_finds_136 (fun H locs hW => ?_)
                have hW : pM G (MWl G ad (xi (mfx (xi y 0 0) w2 go2 fi2) 18 (nI ((cC S.1).getD k0 dC).1.1.length)) ++ W0) s _ _ := hW
                have hW : pM G (MWl G ad (mfx (xa (xi (xi y 0 0) 18 (nI ((cC S.1).getD k0 dC).1.1.length)) 16 (y.2.1 16)) w2 go2 fi2) ++ W0) s _ _ := hW
                refine lv_iconst (v := 0) hx hb dX4_finds_139 (by decide) ?_
                refine lv_istore (lv' := [(6, .int 0), (5, .int (nI (waysA S.1 ((cC S.1).getD k0 dC).1 ((cF S.1).getD k2 dF).1).length)), (4, .ref qb), (0, .ref (ad 0)), (1, .int (nI k0)), (2, .int 1), (3, .int (nI k2))]) hx hb dX4_finds_140 hl (by decide) rfl (fun ls hl => ?_)
                have loop_142 : ∀ (nn : Nat) (k : Nat) (f9 : Nat → Int32) (H : Heap) (locs : List Loc) (ls : Array Slot), ((cC S.1).getD k0 dC).1.1.length - k < nn → (k ≤ ((cC S.1).getD k0 dC).1.1.length) → (∀ j, j < k → f9 j = fi2 j) → pM G (MWl G ad (mfx (xa (xi (xi y 0 0) 18 (nI ((cC S.1).getD k0 dC).1.1.length)) 16 f9) w2 go2 fi2) ++ W0) s H locs → lv_has ls 7 [(0, .ref (ad 0)), (5, .int (nI (waysA S.1 ((cC S.1).getD k0 dC).1 ((cF S.1).getD k2 dF).1).length)), (6, .int (nI k))] → W pp l ee R s m ([.ref (ad 0), .int (nI k0), .int 1, .int (nI k2)] : List Value).toArray below meth c H locs (((0 + 0) + 0) + 0) (((0 + 0) + 0) + 0) Q (F0 m 142 ls []) := by
                  intro nn
                  induction nn with
                  | zero => intro k f9 H locs ls hm; exact absurd hm (Nat.not_lt_zero _)
                  | succ nn ih =>
                    intro k f9 H locs ls hm hk hf9 hW hl
                    refine lv_iload hx hb dX4_finds_142 (lv_at hl 2 rfl) ?_
                    refine lv_aload_n hx hb dX4_finds_144 rfl (lv_at hl 0 rfl) ?_
                    refine gM0_wayParts hF hW q1137 (v := nI ((cC S.1).getD k0 dC).1.1.length) (rfl) dX4_finds_145 ?_
                    refine lv_icmp_ge (tgt := 171) hx hb dX4_finds_148 (by decide) (fun c_148 => ?_) (fun c_148 => ?_)
                    · obtain ⟨A9, S9, hA9⟩ : ∃ A S9, waysA S.1 ((cC S.1).getD k0 dC).1 ((cF S.1).getD k2 dF).1 = A :: S9 := by cases h : waysA S.1 ((cC S.1).getD k0 dC).1 ((cF S.1).getD k2 dF).1 with | nil => rw [h] at hne; exact absurd rfl hne | cons A S9 => exact ⟨A, S9, rfl⟩
                      obtain ⟨q1, q2⟩ := way_r hA9 (fun j hj => hf9 j (by have := le_le c_148; omega)) r2
                      refine lv_aload_n hx hb dX4_finds_171 rfl (lv_at hl 0 rfl) ?_
                      refine lv_iload hx hb dX4_finds_172 (lv_at hl 1 rfl) ?_
                      refine cl_i (ru_V (As := [.int (nI (waysA S.1 ((cC S.1).getD k0 dC).1 ((cF S.1).getD k2 dF).1).length)]) (rest := []) hF (mX4_done l G ad (mfx (xa (xi (xi y 0 0) 18 (nI ((cC S.1).getD k0 dC).1.1.length)) 16 f9) w2 go2 fi2) W0 (nI (waysA S.1 ((cC S.1).getD k0 dC).1 ((cF S.1).getD k2 dF).1).length)) (cwV 1 hts (lw_V q1287 q1289 qs36 q66 q1290) rfl rfl rfl (by decide +kernel) ⟨lb hR1 rfl, lb hR4 rfl⟩) hW (List.mem_of_getElem? (i := 0) rfl) (ci := 20) rfl rfl rfl hl.1 rfl (lv_room (Nat.le_of_ble_eq_true rfl)) dX4_finds_174 ⟨by omega, by omega⟩) hW (fun r_43 u_44 H locs h_45 hW => ?_)
                      obtain ⟨rfl, rfl⟩ : r_43 = nI (waysA S.1 ((cC S.1).getD k0 dC).1 ((cF S.1).getD k2 dF).1).length ∧ u_44 = _ := h_45
                      have hW : pM G (MWl G ad (xi (xi (mfx (xa (xi (xi y 0 0) 18 (nI ((cC S.1).getD k0 dC).1.1.length)) 16 f9) w2 go2 fi2) 1 0) 2 (-1)) ++ W0) s _ _ := hW
                      exact re_i hF hRt hLk hQ (by omega) (by omega) dX4_finds_177 (xi (xi (mfx (xa (xi (xi y 0 0) 18 (nI ((cC S.1).getD k0 dC).1.1.length)) 16 f9) w2 go2 fi2) 1 0) 2 (-1)) (by unfold findsS; rw [hi0, htx]; exact ⟨rfl, ⟨m0, m1, m2, m3, m4, m5, m6, m7, m8, m9, m10, m11, m12, m13, m14, rfl, m16, rfl, m18, q1, q2, m21, m22⟩⟩) hW
                    · have hkl : k < ((cC S.1).getD k0 dC).1.1.length := nle_lt c_148
                      refine lv_aload_n hx hb dX4_finds_151 rfl (lv_at hl 0 rfl) ?_
                      refine gM0_told hF hW q1138 dX4_finds_152 ?_
                      refine lv_iload hx hb dX4_finds_155 (lv_at hl 2 rfl) ?_
                      refine lv_aload_n hx hb dX4_finds_157 rfl (lv_at hl 0 rfl) ?_
                      refine gM0_firstWay hF hW q1135 dX4_finds_158 ?_
                      refine lv_iload hx hb dX4_finds_161 (lv_at hl 2 rfl) ?_
                      refine lM23 hF hW (j := k) (rfl) (by omega) (v := fi2 k) (rfl) dX4_finds_163 ?_
                      refine sM24 hF hW (j := k) (rfl) (by omega) dX4_finds_164 (fun H locs hW => ?_)
                      have hW : pM G (MWl G ad (xa (mfx (xa (xi (xi y 0 0) 18 (nI ((cC S.1).getD k0 dC).1.1.length)) 16 f9) w2 go2 fi2) 16 (va_up ((mfx (xa (xi (xi y 0 0) 18 (nI ((cC S.1).getD k0 dC).1.1.length)) 16 f9) w2 go2 fi2).2.1 16) k (fi2 k))) ++ W0) s _ _ := hW
                      have hW : pM G (MWl G ad (mfx (xa (xi (xi y 0 0) 18 (nI ((cC S.1).getD k0 dC).1.1.length)) 16 (va_up f9 k (fi2 k))) w2 go2 fi2) ++ W0) s _ _ := hW
                      refine lv_iinc (v := nI (k + 1)) (lv' := [(6, .int (nI (k + 1))), (0, .ref (ad 0)), (5, .int (nI (waysA S.1 ((cC S.1).getD k0 dC).1 ((cF S.1).getD k2 dF).1).length))]) hx hb dX4_finds_165 hl (k := 2) rfl (nI_1 _) (by decide) rfl (fun ls hl => ?_)
                      refine lv_goto (tgt := 142) hx hb dX4_finds_168 (by decide) ?_
                      exact ih (k + 1) (va_up f9 k (fi2 k)) H locs ls (by have := nle_lt c_148; omega) (by have := nle_lt c_148; omega) (fun j hj => if h : j = k then by rw [h, up_s] else by rw [up_n h]; exact hf9 j (by omega)) hW (lv_sub hl [1, 2, 0] rfl)
                exact loop_142 _ 0 (y.2.1 16) _ _ _ (Nat.lt_succ_self _) (Nat.zero_le _) (fun j hj => absurd hj (Nat.not_lt_zero _)) hW (lv_sub hl [3, 1, 0] rfl)
              · have hz : (waysA S.1 ((cC S.1).getD k0 dC).1 ((cF S.1).getD k2 dF).1).length = 0 := eq_eq (b := 0) c_120
                have hnil := List.length_eq_zero_iff.mp hz
                refine lv_iconst (v := 0) hx hb dX4_finds_123 (by decide) ?_
                refine lv_goto (tgt := 136) hx hb dX4_finds_124 (by decide) ?_
                refine pM0_wayParts hF hW q1137 dX4_finds_136 (fun H locs hW => ?_)
                have hW : pM G (MWl G ad (xi (mfx (xi y 0 0) w2 go2 fi2) 18 0) ++ W0) s _ _ := hW
                refine lv_iconst (v := 0) hx hb dX4_finds_139 (by decide) ?_
                refine lv_istore (lv' := [(6, .int 0), (5, .int (nI (waysA S.1 ((cC S.1).getD k0 dC).1 ((cF S.1).getD k2 dF).1).length)), (4, .ref qb), (0, .ref (ad 0)), (1, .int (nI k0)), (2, .int 1), (3, .int (nI k2))]) hx hb dX4_finds_140 hl (by decide) rfl (fun ls hl => ?_)
                refine lv_iload hx hb dX4_finds_142 (lv_at hl 0 rfl) ?_
                refine lv_aload_n hx hb dX4_finds_144 rfl (lv_at hl 3 rfl) ?_
                refine gM0_wayParts hF hW q1137 (v := 0) (rfl) dX4_finds_145 ?_
                refine lv_icmp_ge (tgt := 171) hx hb dX4_finds_148 (by decide) (fun c_148 => ?_) (fun c_148 => absurd c_148 (by decide))
                refine lv_aload_n hx hb dX4_finds_171 rfl (lv_at hl 3 rfl) ?_
                refine lv_iload hx hb dX4_finds_172 (lv_at hl 1 rfl) ?_
                refine cl_i (ru_V (As := [.int (nI (waysA S.1 ((cC S.1).getD k0 dC).1 ((cF S.1).getD k2 dF).1).length)]) (rest := []) hF (mX4_done l G ad (xi (mfx (xi y 0 0) w2 go2 fi2) 18 0) W0 (nI (waysA S.1 ((cC S.1).getD k0 dC).1 ((cF S.1).getD k2 dF).1).length)) (cwV 1 hts (lw_V q1287 q1289 qs36 q66 q1290) rfl rfl rfl (by decide +kernel) ⟨lb hR1 rfl, lb hR4 rfl⟩) hW (List.mem_of_getElem? (i := 0) rfl) (ci := 20) rfl rfl rfl hl.1 rfl (lv_room (Nat.le_of_ble_eq_true rfl)) dX4_finds_174 ⟨by omega, by omega⟩) hW (fun r_46 u_47 H locs h_48 hW => ?_)
                obtain ⟨rfl, rfl⟩ : r_46 = nI (waysA S.1 ((cC S.1).getD k0 dC).1 ((cF S.1).getD k2 dF).1).length ∧ u_47 = _ := h_48
                have hW : pM G (MWl G ad (xi (xi (xi (mfx (xi y 0 0) w2 go2 fi2) 1 0) 2 (-1)) 18 0) ++ W0) s _ _ := hW
                exact re_i hF hRt hLk hQ (by omega) (by omega) dX4_finds_177 (xi (xi (xi (mfx (xi y 0 0) w2 go2 fi2) 1 0) 2 (-1)) 18 0) (by unfold findsS; rw [hi0, htx]; exact ⟨rfl, ⟨m0, m1, m2, m3, m4, m5, m6, m7, m8, m9, m10, m11, m12, m13, m14, rfl, m16, rfl, m18, (show (0 : Int32) = nI (wayL (waysA S.1 ((cC S.1).getD k0 dC).1 ((cF S.1).getD k2 dF).1)).length by rw [hnil]; rfl), (show LstR (y.2.1 16) (wayL (waysA S.1 ((cC S.1).getD k0 dC).1 ((cF S.1).getD k2 dF).1)) by rw [hnil]; exact fun j hj => absurd hj (Nat.not_lt_zero _)), m21, m22⟩⟩) hW
            · exact absurd ((by rw [show (xi y 0 0).1 7 = nI (cC S.1).length from m8]; exact ix_in hi0 : 0 ≤ (nI k0) ∧ (nI k0) < (xi y 0 0).1 7)) h_
          · exact absurd ((by rw [show (xi y 0 0).1 6 = nI (cF S.1).length from m4]; exact ix_in hi2 : 0 ≤ (nI k2) ∧ (nI k2) < (xi y 0 0).1 6)) h_
      · by_cases z2 : a1 = 2
        · subst z2
          cases hi2 : ix a2 (cT S.1).length with
          | none =>
            refine lv_aload_n hx hb dX4_finds_0 rfl (lv_at hl 0 rfl) ?_
            refine lv_iconst (v := 0) hx hb dX4_finds_1 (by decide) ?_
            refine pM0_thrown hF hW q1095 dX4_finds_2 (fun H locs hW => ?_)
            have hW : pM G (MWl G ad (xi y 0 0) ++ W0) s _ _ := hW
            refine lv_iload_n hx hb dX4_finds_5 rfl (lv_at hl 2 rfl) ?_
            refine lv_if_ne (tgt := 30) hx hb dX4_finds_6 (by decide) (fun c_6 => ?_) (fun c_6 => absurd c_6 (by decide))
            refine lv_iload_n hx hb dX4_finds_30 rfl (lv_at hl 2 rfl) ?_
            refine lv_iconst (v := 1) hx hb dX4_finds_31 (by decide) ?_
            refine lv_icmp_ne (tgt := 52) hx hb dX4_finds_32 (by decide) (fun c_32 => ?_) (fun c_32 => absurd c_32 (by decide))
            refine lv_iload_n hx hb dX4_finds_52 rfl (lv_at hl 2 rfl) ?_
            refine lv_iconst (v := 2) hx hb dX4_finds_53 (by decide) ?_
            refine lv_icmp_ne (tgt := 78) hx hb dX4_finds_54 (by decide) (fun c_54 => absurd c_54 (by decide)) (fun c_54 => ?_)
            refine lv_iload_n hx hb dX4_finds_57 rfl (lv_at hl 3 rfl) ?_
            refine lv_if_lt (tgt := 78) hx hb dX4_finds_58 (by decide) (fun c_58 => ?_) (fun c_58 => ?_)
            · refine lv_null hx hb dX4_finds_78 ?_
              refine lv_astoreN (lv' := [(4, .null), (0, .ref (ad 0)), (1, .int (nI k0)), (2, .int 2), (3, .int a2)]) hx hb dX4_finds_79 hl (by decide) rfl (fun ls hl => ?_)
              refine lv_aload_n hx hb dX4_finds_81 rfl (lv_at hl 1 rfl) ?_
              refine lv_iload_n hx hb dX4_finds_82 rfl (lv_at hl 2 rfl) ?_
              refine cl_i (ru_V (As := [.int (nI k0)]) (rest := []) hF (mX4_isClaim l G ad (xi y 0 0) W0 (nI k0)) (cwV 1 hts (lw_V q1354 q1356 qs45 q66 q1357) rfl rfl rfl (by decide +kernel) ⟨lb hR1 rfl, lb hR4 rfl⟩) hW (List.mem_of_getElem? (i := 0) rfl) (ci := 20) rfl rfl rfl hl.1 rfl (lv_room (Nat.le_of_ble_eq_true rfl)) dX4_finds_83 ⟨by omega, by omega⟩) hW (fun r_ u_ H locs h_ hW => ?_)
              have hW : pM G (MWl G ad (xi y 0 0) ++ W0) s _ _ := hW
              rcases h_ with ⟨rfl, h_⟩ | ⟨rfl, h_⟩
              · refine lv_if_eq (tgt := 94) hx hb dX4_finds_86 (by decide) (fun c_86 => absurd c_86 (by decide)) (fun c_86 => ?_)
                refine lv_aloadN hx hb dX4_finds_89 (lv_at hl 0 rfl) ?_
                refine lv_ifnonnullN hx hb dX4_finds_91 ?_
                have htx : textOf S.1 2 a2 = none := by unfold textOf; rw [if_neg (by decide), if_neg (by decide), if_pos rfl, hi2]
                refine lv_aload_n hx hb dX4_finds_94 rfl (lv_at hl 1 rfl) ?_
                refine lv_iconst (v := 1) hx hb dX4_finds_95 (by decide) ?_
                refine cl_i (ru_V (As := [.int 1]) (rest := []) hF (mX4_refused l G ad (xi y 0 0) W0 1) (cwV 1 hts (lw_V q1255 q1257 qs29 q66 q1258) rfl rfl rfl (by decide +kernel) ⟨lb hR1 rfl, lb hR4 rfl⟩) hW (List.mem_of_getElem? (i := 0) rfl) (ci := 20) rfl rfl rfl hl.1 rfl (lv_room (Nat.le_of_ble_eq_true rfl)) dX4_finds_96 ⟨by omega, by omega⟩) hW (fun r_49 u_50 H locs h_51 hW => ?_)
                obtain ⟨rfl, rfl⟩ : r_49 = (-1) ∧ u_50 = _ := h_51
                have hW : pM G (MWl G ad (xi (xi (xi y 0 0) 1 1) 2 (-1)) ++ W0) s _ _ := hW
                exact re_i hF hRt hLk hQ (by omega) (by omega) dX4_finds_99 (xi (xi (xi y 0 0) 1 1) 2 (-1)) (by unfold findsS; rw [hi0, htx]; exact ⟨rfl, ⟨m0, m1, m2, m3, m4, m5, m6, m7, m8, m9, m10, m11, m12, m13, m14, rfl, m16, rfl, m18, m19, m20, m21, m22⟩⟩) hW
              · exact absurd ((by rw [show (xi y 0 0).1 7 = nI (cC S.1).length from m8]; exact ix_in hi0 : 0 ≤ (nI k0) ∧ (nI k0) < (xi y 0 0).1 7)) h_
            · refine lv_iload_n hx hb dX4_finds_61 rfl (lv_at hl 3 rfl) ?_
              refine lv_aload_n hx hb dX4_finds_62 rfl (lv_at hl 0 rfl) ?_
              refine gM0_things hF hW q1103 (v := nI (cT S.1).length) (m6) dX4_finds_63 ?_
              refine lv_icmp_ge (tgt := 78) hx hb dX4_finds_66 (by decide) (fun c_66 => ?_) (fun c_66 => absurd (And.intro (Int32.not_lt.mp c_58) (Int32.not_le.mp c_66)) (ix_no hi2))
              refine lv_null hx hb dX4_finds_78 ?_
              refine lv_astoreN (lv' := [(4, .null), (0, .ref (ad 0)), (1, .int (nI k0)), (2, .int 2), (3, .int a2)]) hx hb dX4_finds_79 hl (by decide) rfl (fun ls hl => ?_)
              refine lv_aload_n hx hb dX4_finds_81 rfl (lv_at hl 1 rfl) ?_
              refine lv_iload_n hx hb dX4_finds_82 rfl (lv_at hl 2 rfl) ?_
              refine cl_i (ru_V (As := [.int (nI k0)]) (rest := []) hF (mX4_isClaim l G ad (xi y 0 0) W0 (nI k0)) (cwV 1 hts (lw_V q1354 q1356 qs45 q66 q1357) rfl rfl rfl (by decide +kernel) ⟨lb hR1 rfl, lb hR4 rfl⟩) hW (List.mem_of_getElem? (i := 0) rfl) (ci := 20) rfl rfl rfl hl.1 rfl (lv_room (Nat.le_of_ble_eq_true rfl)) dX4_finds_83 ⟨by omega, by omega⟩) hW (fun r_ u_ H locs h_ hW => ?_)
              have hW : pM G (MWl G ad (xi y 0 0) ++ W0) s _ _ := hW
              rcases h_ with ⟨rfl, h_⟩ | ⟨rfl, h_⟩
              · refine lv_if_eq (tgt := 94) hx hb dX4_finds_86 (by decide) (fun c_86 => absurd c_86 (by decide)) (fun c_86 => ?_)
                refine lv_aloadN hx hb dX4_finds_89 (lv_at hl 0 rfl) ?_
                refine lv_ifnonnullN hx hb dX4_finds_91 ?_
                have htx : textOf S.1 2 a2 = none := by unfold textOf; rw [if_neg (by decide), if_neg (by decide), if_pos rfl, hi2]
                refine lv_aload_n hx hb dX4_finds_94 rfl (lv_at hl 1 rfl) ?_
                refine lv_iconst (v := 1) hx hb dX4_finds_95 (by decide) ?_
                refine cl_i (ru_V (As := [.int 1]) (rest := []) hF (mX4_refused l G ad (xi y 0 0) W0 1) (cwV 1 hts (lw_V q1255 q1257 qs29 q66 q1258) rfl rfl rfl (by decide +kernel) ⟨lb hR1 rfl, lb hR4 rfl⟩) hW (List.mem_of_getElem? (i := 0) rfl) (ci := 20) rfl rfl rfl hl.1 rfl (lv_room (Nat.le_of_ble_eq_true rfl)) dX4_finds_96 ⟨by omega, by omega⟩) hW (fun r_52 u_53 H locs h_54 hW => ?_)
                obtain ⟨rfl, rfl⟩ : r_52 = (-1) ∧ u_53 = _ := h_54
                have hW : pM G (MWl G ad (xi (xi (xi y 0 0) 1 1) 2 (-1)) ++ W0) s _ _ := hW
                exact re_i hF hRt hLk hQ (by omega) (by omega) dX4_finds_99 (xi (xi (xi y 0 0) 1 1) 2 (-1)) (by unfold findsS; rw [hi0, htx]; exact ⟨rfl, ⟨m0, m1, m2, m3, m4, m5, m6, m7, m8, m9, m10, m11, m12, m13, m14, rfl, m16, rfl, m18, m19, m20, m21, m22⟩⟩) hW
              · exact absurd ((by rw [show (xi y 0 0).1 7 = nI (cC S.1).length from m8]; exact ix_in hi0 : 0 ≤ (nI k0) ∧ (nI k0) < (xi y 0 0).1 7)) h_
          | some k2 =>
            obtain ⟨hk2, rfl⟩ := ix_some hi2 (by omega)
            refine lv_aload_n hx hb dX4_finds_0 rfl (lv_at hl 0 rfl) ?_
            refine lv_iconst (v := 0) hx hb dX4_finds_1 (by decide) ?_
            refine pM0_thrown hF hW q1095 dX4_finds_2 (fun H locs hW => ?_)
            have hW : pM G (MWl G ad (xi y 0 0) ++ W0) s _ _ := hW
            refine lv_iload_n hx hb dX4_finds_5 rfl (lv_at hl 2 rfl) ?_
            refine lv_if_ne (tgt := 30) hx hb dX4_finds_6 (by decide) (fun c_6 => ?_) (fun c_6 => absurd c_6 (by decide))
            refine lv_iload_n hx hb dX4_finds_30 rfl (lv_at hl 2 rfl) ?_
            refine lv_iconst (v := 1) hx hb dX4_finds_31 (by decide) ?_
            refine lv_icmp_ne (tgt := 52) hx hb dX4_finds_32 (by decide) (fun c_32 => ?_) (fun c_32 => absurd c_32 (by decide))
            refine lv_iload_n hx hb dX4_finds_52 rfl (lv_at hl 2 rfl) ?_
            refine lv_iconst (v := 2) hx hb dX4_finds_53 (by decide) ?_
            refine lv_icmp_ne (tgt := 78) hx hb dX4_finds_54 (by decide) (fun c_54 => absurd c_54 (by decide)) (fun c_54 => ?_)
            refine lv_iload_n hx hb dX4_finds_57 rfl (lv_at hl 3 rfl) ?_
            refine lv_if_lt (tgt := 78) hx hb dX4_finds_58 (by decide) (fun c_58 => absurd c_58 (nI_pos (by omega))) (fun c_58 => ?_)
            refine lv_iload_n hx hb dX4_finds_61 rfl (lv_at hl 3 rfl) ?_
            refine lv_aload_n hx hb dX4_finds_62 rfl (lv_at hl 0 rfl) ?_
            refine gM0_things hF hW q1103 (v := nI (cT S.1).length) (m6) dX4_finds_63 ?_
            refine lv_icmp_ge (tgt := 78) hx hb dX4_finds_66 (by decide) (fun c_66 => absurd (le_le c_66) (by omega)) (fun c_66 => ?_)
            refine lv_aload_n hx hb dX4_finds_69 rfl (lv_at hl 0 rfl) ?_
            refine gM0_thing hF hW q1109 dX4_finds_70 ?_
            refine lv_iload_n hx hb dX4_finds_73 rfl (lv_at hl 3 rfl) ?_
            obtain ⟨qb, hqb1, hqb2⟩ := (m7 k2 hk2).1
            refine lM5 hF hW (j := k2) (rfl) (by omega) (r := qb) (hqb1) dX4_finds_74 ?_
            refine lv_goto (tgt := 79) hx hb dX4_finds_75 (by decide) ?_
            refine lv_astore (lv' := [(4, .ref qb), (0, .ref (ad 0)), (1, .int (nI k0)), (2, .int 2), (3, .int (nI k2))]) hx hb dX4_finds_79 hl (by decide) rfl (fun ls hl => ?_)
            refine lv_aload_n hx hb dX4_finds_81 rfl (lv_at hl 1 rfl) ?_
            refine lv_iload_n hx hb dX4_finds_82 rfl (lv_at hl 2 rfl) ?_
            refine cl_i (ru_V (As := [.int (nI k0)]) (rest := []) hF (mX4_isClaim l G ad (xi y 0 0) W0 (nI k0)) (cwV 1 hts (lw_V q1354 q1356 qs45 q66 q1357) rfl rfl rfl (by decide +kernel) ⟨lb hR1 rfl, lb hR4 rfl⟩) hW (List.mem_of_getElem? (i := 0) rfl) (ci := 20) rfl rfl rfl hl.1 rfl (lv_room (Nat.le_of_ble_eq_true rfl)) dX4_finds_83 ⟨by omega, by omega⟩) hW (fun r_ u_ H locs h_ hW => ?_)
            have hW : pM G (MWl G ad (xi y 0 0) ++ W0) s _ _ := hW
            rcases h_ with ⟨rfl, h_⟩ | ⟨rfl, h_⟩
            · refine lv_if_eq (tgt := 94) hx hb dX4_finds_86 (by decide) (fun c_86 => absurd c_86 (by decide)) (fun c_86 => ?_)
              refine lv_aload hx hb dX4_finds_89 (lv_at hl 0 rfl) ?_
              refine lv_ifnonnull (tgt := 100) hx hb dX4_finds_91 (by decide) ?_
              refine lv_aload_n hx hb dX4_finds_100 rfl (lv_at hl 1 rfl) ?_
              refine lv_aload_n hx hb dX4_finds_101 rfl (lv_at hl 1 rfl) ?_
              refine gM0_claim hF hW q1110 dX4_finds_102 ?_
              refine lv_iload_n hx hb dX4_finds_105 rfl (lv_at hl 2 rfl) ?_
              obtain ⟨qc, hqc1, hqc2⟩ := (m9 k0 hk0).1
              refine lM6 hF hW (j := k0) (rfl) (by omega) (r := qc) (hqc1) dX4_finds_106 ?_
              refine lv_aload hx hb dX4_finds_107 (lv_at hl 0 rfl) ?_
              refine lv_ldcw hx hb hF.2.2.2.1 (hts _ q1423) dX4_finds_109 ?_
              have htx : textOf S.1 2 (nI k2) = some ((cT S.1).getD k2 dG).1 := by unfold textOf; rw [if_neg (by decide), if_neg (by decide), if_pos rfl, hi2]
              have hokc := (hI.2.2.2.2.1.2 k0 hk0).1.wide
              have hokb := (hI.2.2.2.1.2 _ (getD_mem (d := dG) hk2)).1
              have hW : pM G (MWl G ad (mfx (xi y 0 0) ((xi y 0 0).1 17) ((xi y 0 0).2.1 14) ((xi y 0 0).2.1 15)) ++ W0) s _ _ := hW
              refine cl_i (ru_V (As := [.ref qc, .ref qb, .int 2147483647]) (rest := []) hF (mX4_waysOf_false l G ad (xi y 0 0) W0 ((xi y 0 0).1 17) ((xi y 0 0).2.1 14) ((xi y 0 0).2.1 15) qc qb ((cC S.1).getD k0 dC).1 ((cT S.1).getD k2 dG).1 (hqc2.u.mono hT) (hqb2.u.mono hT) (cW S.1).length (WdOk.cg m1.2 (wdF_ok hI)) b0 hokc hokb) (cwV 3 hts (lw_V q1366 q1368 qs47 q66 q1369) rfl rfl rfl (by decide +kernel) ⟨lb hR1 rfl, lb hR4 rfl⟩) hW (List.mem_of_getElem? (i := 0) rfl) (ci := 20) rfl rfl rfl hl.1 rfl (lv_room (Nat.le_of_ble_eq_true rfl)) dX4_finds_112 ⟨by omega, by omega⟩) hW (fun r_ u_ H locs h_ hW => ?_)
              obtain ⟨w2, go2, fi2⟩ := u_
              have eS : solsF (y.2.1 0) ((cC S.1).getD k0 dC).1 ((cT S.1).getD k2 dG).1 (2 ^ ((cC S.1).getD k0 dC).1.1.length - 1) ((cC S.1).getD k0 dC).1.1.length [] = waysA S.1 ((cC S.1).getD k0 dC).1 ((cT S.1).getD k2 dG).1 := sols_cg (wd := wdF S.1) m1.2 (wdF_ok hI) b0 hokb _ _
              obtain ⟨r1, r2⟩ := h_
              obtain rfl : r_ = nI (waysA S.1 ((cC S.1).getD k0 dC).1 ((cT S.1).getD k2 dG).1).length := r1.trans (by show nI (wC false 0 (solsF (y.2.1 0) ((cC S.1).getD k0 dC).1 ((cT S.1).getD k2 dG).1 (2 ^ ((cC S.1).getD k0 dC).1.1.length - 1) ((cC S.1).getD k0 dC).1.1.length []).length) = _; rw [eS]; unfold wC; simp)
              have r2 : ∀ j, j < ((cC S.1).getD k0 dC).1.1.length → fi2 j = fiF 0 (y.2.1 15) (waysA S.1 ((cC S.1).getD k0 dC).1 ((cT S.1).getD k2 dG).1) j := by rw [← eS]; exact r2
              have hwl : (waysA S.1 ((cC S.1).getD k0 dC).1 ((cT S.1).getD k2 dG).1).length ≤ 16777216 := waysA_len hokc.2.2.1 hokb.2.2.1
              have ha8 := hokc.2.2.1
              have hW : pM G (MWl G ad (mfx (xi y 0 0) w2 go2 fi2) ++ W0) s _ _ := hW
              refine lv_istore (lv' := [(5, .int (nI (waysA S.1 ((cC S.1).getD k0 dC).1 ((cT S.1).getD k2 dG).1).length)), (4, .ref qb), (0, .ref (ad 0)), (1, .int (nI k0)), (2, .int 2), (3, .int (nI k2))]) hx hb dX4_finds_115 hl (by decide) rfl (fun ls hl => ?_)
              refine lv_aload_n hx hb dX4_finds_117 rfl (lv_at hl 2 rfl) ?_
              refine lv_iload hx hb dX4_finds_118 (lv_at hl 0 rfl) ?_
              refine lv_if_ne (tgt := 127) hx hb dX4_finds_120 (by decide) (fun c_120 => ?_) (fun c_120 => ?_)
              · have hne : ¬ (waysA S.1 ((cC S.1).getD k0 dC).1 ((cT S.1).getD k2 dG).1).length = 0 := fun z => c_120 (by rw [z]; rfl)
                refine lv_aload_n hx hb dX4_finds_127 rfl (lv_at hl 2 rfl) ?_
                refine gM0_claim hF hW q1110 dX4_finds_128 ?_
                refine lv_iload_n hx hb dX4_finds_131 rfl (lv_at hl 3 rfl) ?_
                obtain ⟨an9, aw9, af9, av9, at9, nf9, wf9, ff9, vf9, tf9, hq3, -⟩ := id hqc2
                have hq3 := hT _ hq3
                refine lM6 hF hW (j := k0) (rfl) (by omega) (r := qc) (hqc1) dX4_finds_132 ?_
                refine gtN hF hW (ms_r hq3) (ci := 22) rfl in_X6 0 (by decide) (List.mem_of_getElem? (i := 7) rfl) rfl (v := .int (nI ((cC S.1).getD k0 dC).1.1.length)) rfl dX4_finds_133 ?_
                refine pM0_wayParts hF hW q1137 dX4_finds_136 (fun H locs hW => ?_)
                have hW : pM G (MWl G ad (xi (mfx (xi y 0 0) w2 go2 fi2) 18 (nI ((cC S.1).getD k0 dC).1.1.length)) ++ W0) s _ _ := hW
                have hW : pM G (MWl G ad (mfx (xa (xi (xi y 0 0) 18 (nI ((cC S.1).getD k0 dC).1.1.length)) 16 (y.2.1 16)) w2 go2 fi2) ++ W0) s _ _ := hW
                refine lv_iconst (v := 0) hx hb dX4_finds_139 (by decide) ?_
                refine lv_istore (lv' := [(6, .int 0), (5, .int (nI (waysA S.1 ((cC S.1).getD k0 dC).1 ((cT S.1).getD k2 dG).1).length)), (4, .ref qb), (0, .ref (ad 0)), (1, .int (nI k0)), (2, .int 2), (3, .int (nI k2))]) hx hb dX4_finds_140 hl (by decide) rfl (fun ls hl => ?_)
                have loop_142 : ∀ (nn : Nat) (k : Nat) (f9 : Nat → Int32) (H : Heap) (locs : List Loc) (ls : Array Slot), ((cC S.1).getD k0 dC).1.1.length - k < nn → (k ≤ ((cC S.1).getD k0 dC).1.1.length) → (∀ j, j < k → f9 j = fi2 j) → pM G (MWl G ad (mfx (xa (xi (xi y 0 0) 18 (nI ((cC S.1).getD k0 dC).1.1.length)) 16 f9) w2 go2 fi2) ++ W0) s H locs → lv_has ls 7 [(0, .ref (ad 0)), (5, .int (nI (waysA S.1 ((cC S.1).getD k0 dC).1 ((cT S.1).getD k2 dG).1).length)), (6, .int (nI k))] → W pp l ee R s m ([.ref (ad 0), .int (nI k0), .int 2, .int (nI k2)] : List Value).toArray below meth c H locs ((0 + 0) + 0) ((0 + 0) + 0) Q (F0 m 142 ls []) := by
                  intro nn
                  induction nn with
                  | zero => intro k f9 H locs ls hm; exact absurd hm (Nat.not_lt_zero _)
                  | succ nn ih =>
                    intro k f9 H locs ls hm hk hf9 hW hl
                    refine lv_iload hx hb dX4_finds_142 (lv_at hl 2 rfl) ?_
                    refine lv_aload_n hx hb dX4_finds_144 rfl (lv_at hl 0 rfl) ?_
                    refine gM0_wayParts hF hW q1137 (v := nI ((cC S.1).getD k0 dC).1.1.length) (rfl) dX4_finds_145 ?_
                    refine lv_icmp_ge (tgt := 171) hx hb dX4_finds_148 (by decide) (fun c_148 => ?_) (fun c_148 => ?_)
                    · obtain ⟨A9, S9, hA9⟩ : ∃ A S9, waysA S.1 ((cC S.1).getD k0 dC).1 ((cT S.1).getD k2 dG).1 = A :: S9 := by cases h : waysA S.1 ((cC S.1).getD k0 dC).1 ((cT S.1).getD k2 dG).1 with | nil => rw [h] at hne; exact absurd rfl hne | cons A S9 => exact ⟨A, S9, rfl⟩
                      obtain ⟨q1, q2⟩ := way_r hA9 (fun j hj => hf9 j (by have := le_le c_148; omega)) r2
                      refine lv_aload_n hx hb dX4_finds_171 rfl (lv_at hl 0 rfl) ?_
                      refine lv_iload hx hb dX4_finds_172 (lv_at hl 1 rfl) ?_
                      refine cl_i (ru_V (As := [.int (nI (waysA S.1 ((cC S.1).getD k0 dC).1 ((cT S.1).getD k2 dG).1).length)]) (rest := []) hF (mX4_done l G ad (mfx (xa (xi (xi y 0 0) 18 (nI ((cC S.1).getD k0 dC).1.1.length)) 16 f9) w2 go2 fi2) W0 (nI (waysA S.1 ((cC S.1).getD k0 dC).1 ((cT S.1).getD k2 dG).1).length)) (cwV 1 hts (lw_V q1287 q1289 qs36 q66 q1290) rfl rfl rfl (by decide +kernel) ⟨lb hR1 rfl, lb hR4 rfl⟩) hW (List.mem_of_getElem? (i := 0) rfl) (ci := 20) rfl rfl rfl hl.1 rfl (lv_room (Nat.le_of_ble_eq_true rfl)) dX4_finds_174 ⟨by omega, by omega⟩) hW (fun r_55 u_56 H locs h_57 hW => ?_)
                      obtain ⟨rfl, rfl⟩ : r_55 = nI (waysA S.1 ((cC S.1).getD k0 dC).1 ((cT S.1).getD k2 dG).1).length ∧ u_56 = _ := h_57
                      have hW : pM G (MWl G ad (xi (xi (mfx (xa (xi (xi y 0 0) 18 (nI ((cC S.1).getD k0 dC).1.1.length)) 16 f9) w2 go2 fi2) 1 0) 2 (-1)) ++ W0) s _ _ := hW
                      exact re_i hF hRt hLk hQ (by omega) (by omega) dX4_finds_177 (xi (xi (mfx (xa (xi (xi y 0 0) 18 (nI ((cC S.1).getD k0 dC).1.1.length)) 16 f9) w2 go2 fi2) 1 0) 2 (-1)) (by unfold findsS; rw [hi0, htx]; exact ⟨rfl, ⟨m0, m1, m2, m3, m4, m5, m6, m7, m8, m9, m10, m11, m12, m13, m14, rfl, m16, rfl, m18, q1, q2, m21, m22⟩⟩) hW
                    · have hkl : k < ((cC S.1).getD k0 dC).1.1.length := nle_lt c_148
                      refine lv_aload_n hx hb dX4_finds_151 rfl (lv_at hl 0 rfl) ?_
                      refine gM0_told hF hW q1138 dX4_finds_152 ?_
                      refine lv_iload hx hb dX4_finds_155 (lv_at hl 2 rfl) ?_
                      refine lv_aload_n hx hb dX4_finds_157 rfl (lv_at hl 0 rfl) ?_
                      refine gM0_firstWay hF hW q1135 dX4_finds_158 ?_
                      refine lv_iload hx hb dX4_finds_161 (lv_at hl 2 rfl) ?_
                      refine lM23 hF hW (j := k) (rfl) (by omega) (v := fi2 k) (rfl) dX4_finds_163 ?_
                      refine sM24 hF hW (j := k) (rfl) (by omega) dX4_finds_164 (fun H locs hW => ?_)
                      have hW : pM G (MWl G ad (xa (mfx (xa (xi (xi y 0 0) 18 (nI ((cC S.1).getD k0 dC).1.1.length)) 16 f9) w2 go2 fi2) 16 (va_up ((mfx (xa (xi (xi y 0 0) 18 (nI ((cC S.1).getD k0 dC).1.1.length)) 16 f9) w2 go2 fi2).2.1 16) k (fi2 k))) ++ W0) s _ _ := hW
                      have hW : pM G (MWl G ad (mfx (xa (xi (xi y 0 0) 18 (nI ((cC S.1).getD k0 dC).1.1.length)) 16 (va_up f9 k (fi2 k))) w2 go2 fi2) ++ W0) s _ _ := hW
                      refine lv_iinc (v := nI (k + 1)) (lv' := [(6, .int (nI (k + 1))), (0, .ref (ad 0)), (5, .int (nI (waysA S.1 ((cC S.1).getD k0 dC).1 ((cT S.1).getD k2 dG).1).length))]) hx hb dX4_finds_165 hl (k := 2) rfl (nI_1 _) (by decide) rfl (fun ls hl => ?_)
                      refine lv_goto (tgt := 142) hx hb dX4_finds_168 (by decide) ?_
                      exact ih (k + 1) (va_up f9 k (fi2 k)) H locs ls (by have := nle_lt c_148; omega) (by have := nle_lt c_148; omega) (fun j hj => if h : j = k then by rw [h, up_s] else by rw [up_n h]; exact hf9 j (by omega)) hW (lv_sub hl [1, 2, 0] rfl)
                exact loop_142 _ 0 (y.2.1 16) _ _ _ (Nat.lt_succ_self _) (Nat.zero_le _) (fun j hj => absurd hj (Nat.not_lt_zero _)) hW (lv_sub hl [3, 1, 0] rfl)
              · have hz : (waysA S.1 ((cC S.1).getD k0 dC).1 ((cT S.1).getD k2 dG).1).length = 0 := eq_eq (b := 0) c_120
                have hnil := List.length_eq_zero_iff.mp hz
                refine lv_iconst (v := 0) hx hb dX4_finds_123 (by decide) ?_
                refine lv_goto (tgt := 136) hx hb dX4_finds_124 (by decide) ?_
                refine pM0_wayParts hF hW q1137 dX4_finds_136 (fun H locs hW => ?_)
                have hW : pM G (MWl G ad (xi (mfx (xi y 0 0) w2 go2 fi2) 18 0) ++ W0) s _ _ := hW
                refine lv_iconst (v := 0) hx hb dX4_finds_139 (by decide) ?_
                refine lv_istore (lv' := [(6, .int 0), (5, .int (nI (waysA S.1 ((cC S.1).getD k0 dC).1 ((cT S.1).getD k2 dG).1).length)), (4, .ref qb), (0, .ref (ad 0)), (1, .int (nI k0)), (2, .int 2), (3, .int (nI k2))]) hx hb dX4_finds_140 hl (by decide) rfl (fun ls hl => ?_)
                refine lv_iload hx hb dX4_finds_142 (lv_at hl 0 rfl) ?_
                refine lv_aload_n hx hb dX4_finds_144 rfl (lv_at hl 3 rfl) ?_
                refine gM0_wayParts hF hW q1137 (v := 0) (rfl) dX4_finds_145 ?_
                refine lv_icmp_ge (tgt := 171) hx hb dX4_finds_148 (by decide) (fun c_148 => ?_) (fun c_148 => absurd c_148 (by decide))
                refine lv_aload_n hx hb dX4_finds_171 rfl (lv_at hl 3 rfl) ?_
                refine lv_iload hx hb dX4_finds_172 (lv_at hl 1 rfl) ?_
                refine cl_i (ru_V (As := [.int (nI (waysA S.1 ((cC S.1).getD k0 dC).1 ((cT S.1).getD k2 dG).1).length)]) (rest := []) hF (mX4_done l G ad (xi (mfx (xi y 0 0) w2 go2 fi2) 18 0) W0 (nI (waysA S.1 ((cC S.1).getD k0 dC).1 ((cT S.1).getD k2 dG).1).length)) (cwV 1 hts (lw_V q1287 q1289 qs36 q66 q1290) rfl rfl rfl (by decide +kernel) ⟨lb hR1 rfl, lb hR4 rfl⟩) hW (List.mem_of_getElem? (i := 0) rfl) (ci := 20) rfl rfl rfl hl.1 rfl (lv_room (Nat.le_of_ble_eq_true rfl)) dX4_finds_174 ⟨by omega, by omega⟩) hW (fun r_58 u_59 H locs h_60 hW => ?_)
                obtain ⟨rfl, rfl⟩ : r_58 = nI (waysA S.1 ((cC S.1).getD k0 dC).1 ((cT S.1).getD k2 dG).1).length ∧ u_59 = _ := h_60
                have hW : pM G (MWl G ad (xi (xi (xi (mfx (xi y 0 0) w2 go2 fi2) 1 0) 2 (-1)) 18 0) ++ W0) s _ _ := hW
                exact re_i hF hRt hLk hQ (by omega) (by omega) dX4_finds_177 (xi (xi (xi (mfx (xi y 0 0) w2 go2 fi2) 1 0) 2 (-1)) 18 0) (by unfold findsS; rw [hi0, htx]; exact ⟨rfl, ⟨m0, m1, m2, m3, m4, m5, m6, m7, m8, m9, m10, m11, m12, m13, m14, rfl, m16, rfl, m18, (show (0 : Int32) = nI (wayL (waysA S.1 ((cC S.1).getD k0 dC).1 ((cT S.1).getD k2 dG).1)).length by rw [hnil]; rfl), (show LstR (y.2.1 16) (wayL (waysA S.1 ((cC S.1).getD k0 dC).1 ((cT S.1).getD k2 dG).1)) by rw [hnil]; exact fun j hj => absurd hj (Nat.not_lt_zero _)), m21, m22⟩⟩) hW
            · exact absurd ((by rw [show (xi y 0 0).1 7 = nI (cC S.1).length from m8]; exact ix_in hi0 : 0 ≤ (nI k0) ∧ (nI k0) < (xi y 0 0).1 7)) h_
        · have htx : textOf S.1 a1 a2 = none := by unfold textOf; rw [if_neg z0, if_neg z1, if_neg z2]
          refine lv_aload_n hx hb dX4_finds_0 rfl (lv_at hl 0 rfl) ?_
          refine lv_iconst (v := 0) hx hb dX4_finds_1 (by decide) ?_
          refine pM0_thrown hF hW q1095 dX4_finds_2 (fun H locs hW => ?_)
          have hW : pM G (MWl G ad (xi y 0 0) ++ W0) s _ _ := hW
          refine lv_iload_n hx hb dX4_finds_5 rfl (lv_at hl 2 rfl) ?_
          refine lv_if_ne (tgt := 30) hx hb dX4_finds_6 (by decide) (fun c_6 => ?_) (fun c_6 => absurd c_6 z0)
          refine lv_iload_n hx hb dX4_finds_30 rfl (lv_at hl 2 rfl) ?_
          refine lv_iconst (v := 1) hx hb dX4_finds_31 (by decide) ?_
          refine lv_icmp_ne (tgt := 52) hx hb dX4_finds_32 (by decide) (fun c_32 => ?_) (fun c_32 => absurd c_32 z1)
          refine lv_iload_n hx hb dX4_finds_52 rfl (lv_at hl 2 rfl) ?_
          refine lv_iconst (v := 2) hx hb dX4_finds_53 (by decide) ?_
          refine lv_icmp_ne (tgt := 78) hx hb dX4_finds_54 (by decide) (fun c_54 => ?_) (fun c_54 => absurd c_54 z2)
          refine lv_null hx hb dX4_finds_78 ?_
          refine lv_astoreN (lv' := [(4, .null), (0, .ref (ad 0)), (1, .int (nI k0)), (2, .int a1), (3, .int a2)]) hx hb dX4_finds_79 hl (by decide) rfl (fun ls hl => ?_)
          refine lv_aload_n hx hb dX4_finds_81 rfl (lv_at hl 1 rfl) ?_
          refine lv_iload_n hx hb dX4_finds_82 rfl (lv_at hl 2 rfl) ?_
          refine cl_i (ru_V (As := [.int (nI k0)]) (rest := []) hF (mX4_isClaim l G ad (xi y 0 0) W0 (nI k0)) (cwV 1 hts (lw_V q1354 q1356 qs45 q66 q1357) rfl rfl rfl (by decide +kernel) ⟨lb hR1 rfl, lb hR4 rfl⟩) hW (List.mem_of_getElem? (i := 0) rfl) (ci := 20) rfl rfl rfl hl.1 rfl (lv_room (Nat.le_of_ble_eq_true rfl)) dX4_finds_83 ⟨by omega, by omega⟩) hW (fun r_ u_ H locs h_ hW => ?_)
          have hW : pM G (MWl G ad (xi y 0 0) ++ W0) s _ _ := hW
          rcases h_ with ⟨rfl, h_⟩ | ⟨rfl, h_⟩
          · refine lv_if_eq (tgt := 94) hx hb dX4_finds_86 (by decide) (fun c_86 => absurd c_86 (by decide)) (fun c_86 => ?_)
            refine lv_aloadN hx hb dX4_finds_89 (lv_at hl 0 rfl) ?_
            refine lv_ifnonnullN hx hb dX4_finds_91 ?_
            refine lv_aload_n hx hb dX4_finds_94 rfl (lv_at hl 1 rfl) ?_
            refine lv_iconst (v := 1) hx hb dX4_finds_95 (by decide) ?_
            refine cl_i (ru_V (As := [.int 1]) (rest := []) hF (mX4_refused l G ad (xi y 0 0) W0 1) (cwV 1 hts (lw_V q1255 q1257 qs29 q66 q1258) rfl rfl rfl (by decide +kernel) ⟨lb hR1 rfl, lb hR4 rfl⟩) hW (List.mem_of_getElem? (i := 0) rfl) (ci := 20) rfl rfl rfl hl.1 rfl (lv_room (Nat.le_of_ble_eq_true rfl)) dX4_finds_96 ⟨by omega, by omega⟩) hW (fun r_61 u_62 H locs h_63 hW => ?_)
            obtain ⟨rfl, rfl⟩ : r_61 = (-1) ∧ u_62 = _ := h_63
            have hW : pM G (MWl G ad (xi (xi (xi y 0 0) 1 1) 2 (-1)) ++ W0) s _ _ := hW
            exact re_i hF hRt hLk hQ (by omega) (by omega) dX4_finds_99 (xi (xi (xi y 0 0) 1 1) 2 (-1)) (by unfold findsS; rw [hi0, htx]; exact ⟨rfl, ⟨m0, m1, m2, m3, m4, m5, m6, m7, m8, m9, m10, m11, m12, m13, m14, rfl, m16, rfl, m18, m19, m20, m21, m22⟩⟩) hW
          · exact absurd ((by rw [show (xi y 0 0).1 7 = nI (cC S.1).length from m8]; exact ix_in hi0 : 0 ≤ (nI k0) ∧ (nI k0) < (xi y 0 0).1 7)) h_

set_option maxRecDepth 100000 in
set_option maxHeartbeats 4000000 in
theorem mX4_asked (l : Launch) (G : pG) (ad : Nat → Nat) (y : XV) (W0 T : va_W) (hT : ∀ q ∈ T, q ∈ W0) (S : AS) (n9 : Nat) (hS : SOk n9 S) (hn9 : n9 ≤ 64) (hMR : MR G T y S) (a0 a1 : Int32) : Met l yX4_asked (ws_ yX4_asked cX4_asked 3 (some .int)) ({ frames := 1, cells := 0, slots := 0, locals := 22 } : Room) (va_Pc [.ref (ad 0), .int a0, .int a1] (fun U => pW G (MWl G ad y ++ W0) U)) (va_Qi (fun r (_ : Unit) => r = (match askS S a0 a1 with | .inl w => w | .inr _ => 0)) (fun (u : Unit) t9 => pW G (MWl G ad y ++ W0) t9) (pA G)) 0 0 (pA G) := by
  refine mw (by decide) (Nat.le_of_ble_eq_true rfl) ?_
  intro pp ee R s m below meth c ls Q hF hRt hLk hnm hR hQ hW hl
  have hx := hF.1
  have hb := hF.2.1
  have hts := hF.2.2.2.2
  have hR1 : R.frames = 1 := by rw [hR]
  have hR2 : R.cells = 0 := by rw [hR]
  have hR3 : R.slots = 0 := by rw [hR]
  have hR4 : R.locals = 22 := by rw [hR]
  have hl : lv_has ls 3 [(0, .ref (ad 0)), (1, .int a0), (2, .int a1)] := hl
  have hW : pM G (MWl G ad y ++ W0) s s.heap [] := hW
  obtain ⟨m0, m1, m2, m3, m4, m5, m6, m7, m8, m9, m10, m11, m12, m13, m14, m15, m16, m17, m18, m19, m20, m21, m22⟩ := hMR
  have hI := hS.inv
  have b0 := hI.1.1
  have b1 := hI.2.1.1
  have b2 := hI.2.2.1.1
  have b3 := hI.2.2.2.1.1
  have b4 := hI.2.2.2.2.1.1
  have b5 := hI.2.2.2.2.2
  have b6 := hS.2.1
  have b7 := hS.2.2.1
  have b8 := hS.2.2.2.1
  have b9 := hS.2.2.2.2.1
  cases hi0 : ix a0 (cC S.1).length with
  | none =>
    cases hi1 : ixn a1 20000 with
    | none =>
      refine lv_aload_n hx hb dX4_asked_0 rfl (lv_at hl 0 rfl) ?_
      refine lv_iload_n hx hb dX4_asked_1 rfl (lv_at hl 1 rfl) ?_
      refine cl_i (ru_V (As := [.int a0]) (rest := []) hF (mX4_isClaim l G ad y W0 a0) (cwV 1 hts (lw_V q1354 q1356 qs45 q66 q1357) rfl rfl rfl (by decide +kernel) ⟨lb hR1 rfl, lb hR4 rfl⟩) hW (List.mem_of_getElem? (i := 0) rfl) (ci := 20) rfl rfl rfl hl.1 rfl (lv_room (Nat.le_of_ble_eq_true rfl)) dX4_asked_2 ⟨by omega, by omega⟩) hW (fun r_ u_ H locs h_ hW => ?_)
      have hW : pM G (MWl G ad y ++ W0) s _ _ := hW
      rcases h_ with ⟨rfl, h_⟩ | ⟨rfl, h_⟩
      · exact absurd h_ (fun z => ix_no hi0 (by rw [show y.1 7 = nI (cC S.1).length from m8] at z; exact z))
      · refine lv_if_eq (tgt := 29) hx hb dX4_asked_5 (by decide) (fun c_5 => ?_) (fun c_5 => absurd c_5 (by decide))
        refine lv_iconst (v := 1) hx hb dX4_asked_29 (by decide) ?_
        refine lv_goto (tgt := 49) hx hb dX4_asked_30 (by decide) ?_
        exact re_i hF hRt hLk hQ (by omega) (by omega) dX4_asked_49 () (by unfold askS; rw [hi0]) hW
    | some k1 =>
      obtain ⟨hk1, rfl⟩ := ixn_some hi1 (by omega)
      refine lv_aload_n hx hb dX4_asked_0 rfl (lv_at hl 0 rfl) ?_
      refine lv_iload_n hx hb dX4_asked_1 rfl (lv_at hl 1 rfl) ?_
      refine cl_i (ru_V (As := [.int a0]) (rest := []) hF (mX4_isClaim l G ad y W0 a0) (cwV 1 hts (lw_V q1354 q1356 qs45 q66 q1357) rfl rfl rfl (by decide +kernel) ⟨lb hR1 rfl, lb hR4 rfl⟩) hW (List.mem_of_getElem? (i := 0) rfl) (ci := 20) rfl rfl rfl hl.1 rfl (lv_room (Nat.le_of_ble_eq_true rfl)) dX4_asked_2 ⟨by omega, by omega⟩) hW (fun r_ u_ H locs h_ hW => ?_)
      have hW : pM G (MWl G ad y ++ W0) s _ _ := hW
      rcases h_ with ⟨rfl, h_⟩ | ⟨rfl, h_⟩
      · exact absurd h_ (fun z => ix_no hi0 (by rw [show y.1 7 = nI (cC S.1).length from m8] at z; exact z))
      · refine lv_if_eq (tgt := 29) hx hb dX4_asked_5 (by decide) (fun c_5 => ?_) (fun c_5 => absurd c_5 (by decide))
        refine lv_iconst (v := 1) hx hb dX4_asked_29 (by decide) ?_
        refine lv_goto (tgt := 49) hx hb dX4_asked_30 (by decide) ?_
        exact re_i hF hRt hLk hQ (by omega) (by omega) dX4_asked_49 () (by unfold askS; rw [hi0]) hW
  | some k0 =>
    obtain ⟨hk0, rfl⟩ := ix_some hi0 (by omega)
    cases hi1 : ixn a1 20000 with
    | none =>
      refine lv_aload_n hx hb dX4_asked_0 rfl (lv_at hl 0 rfl) ?_
      refine lv_iload_n hx hb dX4_asked_1 rfl (lv_at hl 1 rfl) ?_
      refine cl_i (ru_V (As := [.int (nI k0)]) (rest := []) hF (mX4_isClaim l G ad y W0 (nI k0)) (cwV 1 hts (lw_V q1354 q1356 qs45 q66 q1357) rfl rfl rfl (by decide +kernel) ⟨lb hR1 rfl, lb hR4 rfl⟩) hW (List.mem_of_getElem? (i := 0) rfl) (ci := 20) rfl rfl rfl hl.1 rfl (lv_room (Nat.le_of_ble_eq_true rfl)) dX4_asked_2 ⟨by omega, by omega⟩) hW (fun r_ u_ H locs h_ hW => ?_)
      have hW : pM G (MWl G ad y ++ W0) s _ _ := hW
      rcases h_ with ⟨rfl, h_⟩ | ⟨rfl, h_⟩
      · refine lv_if_eq (tgt := 29) hx hb dX4_asked_5 (by decide) (fun c_5 => absurd c_5 (by decide)) (fun c_5 => ?_)
        refine lv_iload_n hx hb dX4_asked_8 rfl (lv_at hl 2 rfl) ?_
        refine lv_iconst (v := 0) hx hb dX4_asked_9 (by decide) ?_
        refine lv_sipush (v := 20000) hx hb dX4_asked_10 (by decide) ?_
        refine cl_i (ru_S (As := [.int a1, .int 0, .int 20000]) (rest := []) hF (mX4_in l G (MWl G ad y ++ W0) a1 0 20000) (va_cwS 3 hts (lw_S q1307 q1308 q66 q1309) rfl rfl rfl (by decide +kernel) ⟨lb hR1 rfl, lb hR4 rfl⟩) hW rfl rfl hl.1 rfl (lv_room (Nat.le_of_ble_eq_true rfl)) dX4_asked_13 ⟨by omega, by omega⟩) hW (fun r_ u_ H locs h_ hW => ?_)
        have hW : pM G (MWl G ad y ++ W0) s _ _ := hW
        rcases h_ with ⟨rfl, h_⟩ | ⟨rfl, h_⟩
        · exact absurd h_ (ixn_no hi1 (by decide))
        · refine lv_if_eq (tgt := 33) hx hb dX4_asked_16 (by decide) (fun c_16 => ?_) (fun c_16 => absurd c_16 (by decide))
          refine lv_iload_n hx hb dX4_asked_33 rfl (lv_at hl 2 rfl) ?_
          refine lv_iconst (v := 0) hx hb dX4_asked_34 (by decide) ?_
          refine lv_sipush (v := 20000) hx hb dX4_asked_35 (by decide) ?_
          refine cl_i (ru_S (As := [.int a1, .int 0, .int 20000]) (rest := []) hF (mX4_in l G (MWl G ad y ++ W0) a1 0 20000) (va_cwS 3 hts (lw_S q1307 q1308 q66 q1309) rfl rfl rfl (by decide +kernel) ⟨lb hR1 rfl, lb hR4 rfl⟩) hW rfl rfl hl.1 rfl (lv_room (Nat.le_of_ble_eq_true rfl)) dX4_asked_38 ⟨by omega, by omega⟩) hW (fun r_ u_ H locs h_ hW => ?_)
          have hW : pM G (MWl G ad y ++ W0) s _ _ := hW
          rcases h_ with ⟨rfl, h_⟩ | ⟨rfl, h_⟩
          · exact absurd h_ (ixn_no hi1 (by decide))
          · refine lv_if_ne (tgt := 48) hx hb dX4_asked_41 (by decide) (fun c_41 => absurd c_41 (by decide)) (fun c_41 => ?_)
            refine lv_iconst (v := 2) hx hb dX4_asked_44 (by decide) ?_
            refine lv_goto (tgt := 49) hx hb dX4_asked_45 (by decide) ?_
            exact re_i hF hRt hLk hQ (by omega) (by omega) dX4_asked_49 () (by unfold askS; rw [hi0]; dsimp only; rw [hi1]) hW
      · exact absurd ((by rw [show y.1 7 = nI (cC S.1).length from m8]; exact ix_in hi0 : 0 ≤ (nI k0) ∧ (nI k0) < y.1 7)) h_
    | some k1 =>
      obtain ⟨hk1, rfl⟩ := ixn_some hi1 (by omega)
      refine lv_aload_n hx hb dX4_asked_0 rfl (lv_at hl 0 rfl) ?_
      refine lv_iload_n hx hb dX4_asked_1 rfl (lv_at hl 1 rfl) ?_
      refine cl_i (ru_V (As := [.int (nI k0)]) (rest := []) hF (mX4_isClaim l G ad y W0 (nI k0)) (cwV 1 hts (lw_V q1354 q1356 qs45 q66 q1357) rfl rfl rfl (by decide +kernel) ⟨lb hR1 rfl, lb hR4 rfl⟩) hW (List.mem_of_getElem? (i := 0) rfl) (ci := 20) rfl rfl rfl hl.1 rfl (lv_room (Nat.le_of_ble_eq_true rfl)) dX4_asked_2 ⟨by omega, by omega⟩) hW (fun r_ u_ H locs h_ hW => ?_)
      have hW : pM G (MWl G ad y ++ W0) s _ _ := hW
      rcases h_ with ⟨rfl, h_⟩ | ⟨rfl, h_⟩
      · refine lv_if_eq (tgt := 29) hx hb dX4_asked_5 (by decide) (fun c_5 => absurd c_5 (by decide)) (fun c_5 => ?_)
        refine lv_iload_n hx hb dX4_asked_8 rfl (lv_at hl 2 rfl) ?_
        refine lv_iconst (v := 0) hx hb dX4_asked_9 (by decide) ?_
        refine lv_sipush (v := 20000) hx hb dX4_asked_10 (by decide) ?_
        refine cl_i (ru_S (As := [.int (nI k1), .int 0, .int 20000]) (rest := []) hF (mX4_in l G (MWl G ad y ++ W0) (nI k1) 0 20000) (va_cwS 3 hts (lw_S q1307 q1308 q66 q1309) rfl rfl rfl (by decide +kernel) ⟨lb hR1 rfl, lb hR4 rfl⟩) hW rfl rfl hl.1 rfl (lv_room (Nat.le_of_ble_eq_true rfl)) dX4_asked_13 ⟨by omega, by omega⟩) hW (fun r_ u_ H locs h_ hW => ?_)
        have hW : pM G (MWl G ad y ++ W0) s _ _ := hW
        rcases h_ with ⟨rfl, h_⟩ | ⟨rfl, h_⟩
        · refine lv_if_eq (tgt := 33) hx hb dX4_asked_16 (by decide) (fun c_16 => absurd c_16 (by decide)) (fun c_16 => ?_)
          refine lv_aload_n hx hb dX4_asked_19 rfl (lv_at hl 0 rfl) ?_
          refine gM0_claimKnown hF hW q1118 dX4_asked_20 ?_
          refine lv_iload_n hx hb dX4_asked_23 rfl (lv_at hl 1 rfl) ?_
          refine lM14 hF hW (j := k0) (rfl) (by omega) (v := nI ((cC S.1).getD k0 dC).2.2.2.1) ((m9 k0 hk0).2.2.2.1) dX4_asked_24 ?_
          refine lv_iload_n hx hb dX4_asked_25 rfl (lv_at hl 2 rfl) ?_
          refine lv_icmp_le (tgt := 33) hx hb dX4_asked_26 (by decide) (fun c_26 => ?_) (fun c_26 => ?_)
          · have hle : ((cC S.1).getD k0 dC).2.2.2.1 ≤ k1 := le_le c_26 (by have := (hI.2.2.2.2.1.2 k0 hk0).2.2.2.1; omega)
            refine lv_iload_n hx hb dX4_asked_33 rfl (lv_at hl 2 rfl) ?_
            refine lv_iconst (v := 0) hx hb dX4_asked_34 (by decide) ?_
            refine lv_sipush (v := 20000) hx hb dX4_asked_35 (by decide) ?_
            refine cl_i (ru_S (As := [.int (nI k1), .int 0, .int 20000]) (rest := []) hF (mX4_in l G (MWl G ad y ++ W0) (nI k1) 0 20000) (va_cwS 3 hts (lw_S q1307 q1308 q66 q1309) rfl rfl rfl (by decide +kernel) ⟨lb hR1 rfl, lb hR4 rfl⟩) hW rfl rfl hl.1 rfl (lv_room (Nat.le_of_ble_eq_true rfl)) dX4_asked_38 ⟨by omega, by omega⟩) hW (fun r_ u_ H locs h_ hW => ?_)
            have hW : pM G (MWl G ad y ++ W0) s _ _ := hW
            rcases h_ with ⟨rfl, h_⟩ | ⟨rfl, h_⟩
            · refine lv_if_ne (tgt := 48) hx hb dX4_asked_41 (by decide) (fun c_41 => ?_) (fun c_41 => absurd c_41 (by decide))
              refine lv_iconst (v := 0) hx hb dX4_asked_48 (by decide) ?_
              exact re_i hF hRt hLk hQ (by omega) (by omega) dX4_asked_49 () (by unfold askS; rw [hi0]; dsimp only; rw [hi1]; dsimp only; rw [if_neg (by omega)]) hW
            · exact absurd (ixn_in hi1 (by decide)) h_
          · have hle : k1 < ((cC S.1).getD k0 dC).2.2.2.1 := nle_lt c_26 (by have := (hI.2.2.2.2.1.2 k0 hk0).2.2.2.1; omega)
            refine lv_iconst (v := 1) hx hb dX4_asked_29 (by decide) ?_
            refine lv_goto (tgt := 49) hx hb dX4_asked_30 (by decide) ?_
            exact re_i hF hRt hLk hQ (by omega) (by omega) dX4_asked_49 () (by unfold askS; rw [hi0]; dsimp only; rw [hi1]; dsimp only; rw [if_pos hle]) hW
        · exact absurd (ixn_in hi1 (by decide)) h_
      · exact absurd ((by rw [show y.1 7 = nI (cC S.1).length from m8]; exact ix_in hi0 : 0 ≤ (nI k0) ∧ (nI k0) < y.1 7)) h_

set_option maxRecDepth 100000 in
set_option maxHeartbeats 8000000 in
theorem mX4_old (l : Launch) (G : pG) (ad : Nat → Nat) (y : XV) (W0 T : va_W) (hT : ∀ q ∈ T, q ∈ W0) (S : AS) (n9 : Nat) (hS : SOk n9 S) (hn9 : n9 ≤ 64) (hMR : MR G T y S) (a0 a1 : Int32) : Met l yX4_old (ws_ yX4_old cX4_old 6 (some .int)) ({ frames := 23, cells := 0, slots := 0, locals := 1067 } : Room) (va_Pc [.ref (ad 0), .int a0, .int a1] (fun U => pW G (MWl G ad y ++ W0) U)) (va_Qi (fun r (u : XV) => r = (oldS S a0 a1).2 ∧ MR G T u (oldS S a0 a1).1) (fun (u : XV) t9 => pW G (MWl G ad u ++ W0) t9) (pA G)) 0 0 (pA G) := by
  refine mw (by decide) (Nat.le_of_ble_eq_true rfl) ?_
  intro pp ee R s m below meth c ls Q hF hRt hLk hnm hR hQ hW hl
  have hx := hF.1
  have hb := hF.2.1
  have hts := hF.2.2.2.2
  have hR1 : R.frames = 23 := by rw [hR]
  have hR2 : R.cells = 0 := by rw [hR]
  have hR3 : R.slots = 0 := by rw [hR]
  have hR4 : R.locals = 1067 := by rw [hR]
  have hl : lv_has ls 6 [(0, .ref (ad 0)), (1, .int a0), (2, .int a1)] := hl
  have hW : pM G (MWl G ad y ++ W0) s s.heap [] := hW
  obtain ⟨m0, m1, m2, m3, m4, m5, m6, m7, m8, m9, m10, m11, m12, m13, m14, m15, m16, m17, m18, m19, m20, m21, m22⟩ := hMR
  have hI := hS.inv
  have b0 := hI.1.1
  have b1 := hI.2.1.1
  have b2 := hI.2.2.1.1
  have b3 := hI.2.2.2.1.1
  have b4 := hI.2.2.2.2.1.1
  have b5 := hI.2.2.2.2.2
  have b6 := hS.2.1
  have b7 := hS.2.2.1
  have b8 := hS.2.2.2.1
  have b9 := hS.2.2.2.2.1
  cases hq : askS S a0 a1 with
  | inl w =>
    have hw := ask_w hq
    refine lv_aload_n hx hb dX4_old_0 rfl (lv_at hl 0 rfl) ?_
    refine lv_iconst (v := 0) hx hb dX4_old_1 (by decide) ?_
    refine pM0_thrown hF hW q1095 dX4_old_2 (fun H locs hW => ?_)
    have hW : pM G (MWl G ad (xi y 0 0) ++ W0) s _ _ := hW
    refine lv_aload_n hx hb dX4_old_5 rfl (lv_at hl 0 rfl) ?_
    refine lv_iload_n hx hb dX4_old_6 rfl (lv_at hl 1 rfl) ?_
    refine lv_iload_n hx hb dX4_old_7 rfl (lv_at hl 2 rfl) ?_
    refine cl_i (ru_V (As := [.int a0, .int a1]) (rest := []) hF (mX4_asked l G ad (xi y 0 0) W0 T hT S n9 hS hn9 ⟨m0, m1, m2, m3, m4, m5, m6, m7, m8, m9, m10, m11, m12, m13, m14, m15, m16, m17, m18, m19, m20, m21, m22⟩ a0 a1) (cwV 2 hts (lw_V q1432 q1434 qs54 q66 q1435) rfl rfl rfl (by decide +kernel) ⟨lb hR1 rfl, lb hR4 rfl⟩) hW (List.mem_of_getElem? (i := 0) rfl) (ci := 20) rfl rfl rfl hl.1 rfl (lv_room (Nat.le_of_ble_eq_true rfl)) dX4_old_8 ⟨by omega, by omega⟩) hW (fun r_ u_ H locs h_ hW => ?_)
    have hW : pM G (MWl G ad (xi y 0 0) ++ W0) s _ _ := hW
    obtain rfl : r_ = w := h_.trans (by rw [hq])
    rcases hw with rfl | rfl
    · refine lv_istore_n (lv' := [(3, .int 1), (0, .ref (ad 0)), (1, .int a0), (2, .int a1)]) hx hb dX4_old_11 rfl hl (by decide) rfl (fun ls hl => ?_)
      refine lv_iload_n hx hb dX4_old_12 rfl (lv_at hl 0 rfl) ?_
      refine lv_if_le (tgt := 22) hx hb dX4_old_13 (by decide) (fun c_13 => absurd c_13 (by decide)) (fun c_13 => ?_)
      refine lv_aload_n hx hb dX4_old_16 rfl (lv_at hl 1 rfl) ?_
      refine lv_iload_n hx hb dX4_old_17 rfl (lv_at hl 0 rfl) ?_
      refine cl_i (ru_V (As := [.int 1]) (rest := []) hF (mX4_refused l G ad (xi y 0 0) W0 1) (cwV 1 hts (lw_V q1255 q1257 qs29 q66 q1258) rfl rfl rfl (by decide +kernel) ⟨lb hR1 rfl, lb hR4 rfl⟩) hW (List.mem_of_getElem? (i := 0) rfl) (ci := 20) rfl rfl rfl hl.1 rfl (lv_room (Nat.le_of_ble_eq_true rfl)) dX4_old_18 ⟨by omega, by omega⟩) hW (fun r_1 u_2 H locs h_3 hW => ?_)
      obtain ⟨rfl, rfl⟩ : r_1 = (-1) ∧ u_2 = _ := h_3
      have hW : pM G (MWl G ad (xi (xi (xi y 0 0) 1 1) 2 (-1)) ++ W0) s _ _ := hW
      exact re_i hF hRt hLk hQ (by omega) (by omega) dX4_old_21 (xi (xi (xi y 0 0) 1 1) 2 (-1)) (by unfold oldS; rw [hq]; exact ⟨rfl, ⟨m0, m1, m2, m3, m4, m5, m6, m7, m8, m9, m10, m11, m12, m13, m14, rfl, m16, rfl, m18, m19, m20, m21, m22⟩⟩) hW
    · refine lv_istore_n (lv' := [(3, .int 2), (0, .ref (ad 0)), (1, .int a0), (2, .int a1)]) hx hb dX4_old_11 rfl hl (by decide) rfl (fun ls hl => ?_)
      refine lv_iload_n hx hb dX4_old_12 rfl (lv_at hl 0 rfl) ?_
      refine lv_if_le (tgt := 22) hx hb dX4_old_13 (by decide) (fun c_13 => absurd c_13 (by decide)) (fun c_13 => ?_)
      refine lv_aload_n hx hb dX4_old_16 rfl (lv_at hl 1 rfl) ?_
      refine lv_iload_n hx hb dX4_old_17 rfl (lv_at hl 0 rfl) ?_
      refine cl_i (ru_V (As := [.int 2]) (rest := []) hF (mX4_refused l G ad (xi y 0 0) W0 2) (cwV 1 hts (lw_V q1255 q1257 qs29 q66 q1258) rfl rfl rfl (by decide +kernel) ⟨lb hR1 rfl, lb hR4 rfl⟩) hW (List.mem_of_getElem? (i := 0) rfl) (ci := 20) rfl rfl rfl hl.1 rfl (lv_room (Nat.le_of_ble_eq_true rfl)) dX4_old_18 ⟨by omega, by omega⟩) hW (fun r_4 u_5 H locs h_6 hW => ?_)
      obtain ⟨rfl, rfl⟩ : r_4 = (-1) ∧ u_5 = _ := h_6
      have hW : pM G (MWl G ad (xi (xi (xi y 0 0) 1 2) 2 (-1)) ++ W0) s _ _ := hW
      exact re_i hF hRt hLk hQ (by omega) (by omega) dX4_old_21 (xi (xi (xi y 0 0) 1 2) 2 (-1)) (by unfold oldS; rw [hq]; exact ⟨rfl, ⟨m0, m1, m2, m3, m4, m5, m6, m7, m8, m9, m10, m11, m12, m13, m14, rfl, m16, rfl, m18, m19, m20, m21, m22⟩⟩) hW
  | inr q =>
    obtain ⟨k0, k1⟩ := q
    obtain ⟨hi0, hi1, hkn⟩ := ask_r hq
    have hi0 : ix a0 (cC S.1).length = some k0 := hi0
    have hi1 : ixn a1 20000 = some k1 := hi1
    have hkn : ((cC S.1).getD k0 dC).2.2.2.1 ≤ k1 := hkn
    obtain ⟨hk0, rfl⟩ := ix_some hi0 (by omega)
    obtain ⟨hk1, rfl⟩ := ixn_some hi1 (by decide)
    have hday := day_le hI hk0
    refine lv_aload_n hx hb dX4_old_0 rfl (lv_at hl 0 rfl) ?_
    refine lv_iconst (v := 0) hx hb dX4_old_1 (by decide) ?_
    refine pM0_thrown hF hW q1095 dX4_old_2 (fun H locs hW => ?_)
    have hW : pM G (MWl G ad (xi y 0 0) ++ W0) s _ _ := hW
    refine lv_aload_n hx hb dX4_old_5 rfl (lv_at hl 0 rfl) ?_
    refine lv_iload_n hx hb dX4_old_6 rfl (lv_at hl 1 rfl) ?_
    refine lv_iload_n hx hb dX4_old_7 rfl (lv_at hl 2 rfl) ?_
    refine cl_i (ru_V (As := [.int (nI k0), .int (nI k1)]) (rest := []) hF (mX4_asked l G ad (xi y 0 0) W0 T hT S n9 hS hn9 ⟨m0, m1, m2, m3, m4, m5, m6, m7, m8, m9, m10, m11, m12, m13, m14, m15, m16, m17, m18, m19, m20, m21, m22⟩ (nI k0) (nI k1)) (cwV 2 hts (lw_V q1432 q1434 qs54 q66 q1435) rfl rfl rfl (by decide +kernel) ⟨lb hR1 rfl, lb hR4 rfl⟩) hW (List.mem_of_getElem? (i := 0) rfl) (ci := 20) rfl rfl rfl hl.1 rfl (lv_room (Nat.le_of_ble_eq_true rfl)) dX4_old_8 ⟨by omega, by omega⟩) hW (fun r_ u_ H locs h_ hW => ?_)
    have hW : pM G (MWl G ad (xi y 0 0) ++ W0) s _ _ := hW
    obtain rfl : r_ = 0 := h_.trans (by rw [hq])
    refine lv_istore_n (lv' := [(3, .int 0), (0, .ref (ad 0)), (1, .int (nI k0)), (2, .int (nI k1))]) hx hb dX4_old_11 rfl hl (by decide) rfl (fun ls hl => ?_)
    refine lv_iload_n hx hb dX4_old_12 rfl (lv_at hl 0 rfl) ?_
    refine lv_if_le (tgt := 22) hx hb dX4_old_13 (by decide) (fun c_13 => ?_) (fun c_13 => absurd c_13 (by decide))
    refine lv_aload_n hx hb dX4_old_22 rfl (lv_at hl 1 rfl) ?_
    refine lv_iload_n hx hb dX4_old_23 rfl (lv_at hl 2 rfl) ?_
    refine cl_i (ru_V (As := [.int (nI k0)]) (rest := []) hF (mX4_dayOf l G ad (xi y 0 0) W0 T hT S n9 hS hn9 ⟨m0, m1, m2, m3, m4, m5, m6, m7, m8, m9, m10, m11, m12, m13, m14, m15, m16, m17, m18, m19, m20, m21, m22⟩ k0 hk0) (cwV 1 hts (lw_V q1410 q1412 qs52 q66 q1413) rfl rfl rfl (by decide +kernel) ⟨lb hR1 rfl, lb hR4 rfl⟩) hW (List.mem_of_getElem? (i := 0) rfl) (ci := 20) rfl rfl rfl hl.1 rfl (lv_room (Nat.le_of_ble_eq_true rfl)) dX4_old_24 ⟨by omega, by omega⟩) hW (fun r_ u_ H locs h_ hW => ?_)
    obtain ⟨w, go, fi⟩ := u_
    obtain rfl : r_ = nI (dayOf S.1 k0) := h_
    have hW : pM G (MWl G ad (mfx (xi y 0 0) w go fi) ++ W0) s _ _ := hW
    refine lv_istore (lv' := [(4, .int (nI (dayOf S.1 k0))), (3, .int 0), (0, .ref (ad 0)), (1, .int (nI k0)), (2, .int (nI k1))]) hx hb dX4_old_27 hl (by decide) rfl (fun ls hl => ?_)
    refine lv_iconst (v := 0) hx hb dX4_old_29 (by decide) ?_
    refine lv_istore (lv' := [(5, .int 0), (4, .int (nI (dayOf S.1 k0))), (3, .int 0), (0, .ref (ad 0)), (1, .int (nI k0)), (2, .int (nI k1))]) hx hb dX4_old_30 hl (by decide) rfl (fun ls hl => ?_)
    have loop_32 : ∀ (nn : Nat) (p : Nat) (w4 : Int32) (go4 : Nat → Int32) (fi4 : Nat → Int32) (H : Heap) (locs : List Loc) (ls : Array Slot), (cP S.1).length - p < nn → (p ≤ (cP S.1).length) → (∀ j, j < p → oldB S.1 k0 k1 j = false) → pM G (MWl G ad (mfx (xi y 0 0) w4 go4 fi4) ++ W0) s H locs → lv_has ls 6 [(0, .ref (ad 0)), (1, .int (nI k0)), (2, .int (nI k1)), (4, .int (nI (dayOf S.1 k0))), (5, .int (nI p))] → W pp l ee R s m ([.ref (ad 0), .int (nI k0), .int (nI k1)] : List Value).toArray below meth c H locs ((0 + 0) + 0) ((0 + 0) + 0) Q (F0 m 32 ls []) := by
      intro nn
      induction nn with
      | zero => intro p w4 go4 fi4 H locs ls hm; exact absurd hm (Nat.not_lt_zero _)
      | succ nn ih =>
        intro p w4 go4 fi4 H locs ls hm hp hno hW hl
        refine lv_iload hx hb dX4_old_32 (lv_at hl 4 rfl) ?_
        refine lv_aload_n hx hb dX4_old_34 rfl (lv_at hl 0 rfl) ?_
        refine gM0_papers hF hW q1100 (v := nI (cP S.1).length) (m2) dX4_old_35 ?_
        refine lv_icmp_ge (tgt := 79) hx hb dX4_old_38 (by decide) (fun c_38 => ?_) (fun c_38 => ?_)
        · refine lv_aload_n hx hb dX4_old_79 rfl (lv_at hl 0 rfl) ?_
          refine lv_iload hx hb dX4_old_80 (lv_at hl 4 rfl) ?_
          refine lv_aload_n hx hb dX4_old_82 rfl (lv_at hl 0 rfl) ?_
          refine gM0_papers hF hW q1100 (v := nI (cP S.1).length) (m2) dX4_old_83 ?_
          refine lv_icmp_ge (tgt := 94) hx hb dX4_old_86 (by decide) (fun c_86 => ?_) (fun c_86 => absurd c_38 c_86)
          refine lv_bipush (v := (-2)) hx hb dX4_old_94 (by decide) ?_
          refine cl_i (ru_V (As := [.int (-2)]) (rest := []) hF (mX4_done l G ad (mfx (xi y 0 0) w4 go4 fi4) W0 (-2)) (cwV 1 hts (lw_V q1287 q1289 qs36 q66 q1290) rfl rfl rfl (by decide +kernel) ⟨lb hR1 rfl, lb hR4 rfl⟩) hW (List.mem_of_getElem? (i := 0) rfl) (ci := 20) rfl rfl rfl hl.1 rfl (lv_room (Nat.le_of_ble_eq_true rfl)) dX4_old_96 ⟨by omega, by omega⟩) hW (fun r_7 u_8 H locs h_9 hW => ?_)
          obtain ⟨rfl, rfl⟩ : r_7 = (-2) ∧ u_8 = _ := h_9
          have hW : pM G (MWl G ad (xi (xi (mfx (xi y 0 0) w4 go4 fi4) 1 0) 2 (-1)) ++ W0) s _ _ := hW
          exact re_i hF hRt hLk hQ (by omega) (by omega) dX4_old_99 (xi (xi (mfx (xi y 0 0) w4 go4 fi4) 1 0) 2 (-1)) (by unfold oldS; rw [hq]; dsimp only; rw [find_n (fun j hj => hno j (by have := le_le c_38; omega))]; exact ⟨rfl, ⟨m0, m1, m2, m3, m4, m5, m6, m7, m8, m9, m10, m11, m12, m13, m14, rfl, m16, rfl, m18, m19, m20, m21, m22⟩⟩) hW
        · have hpl : p < (cP S.1).length := nle_lt c_38
          refine lv_aload_n hx hb dX4_old_41 rfl (lv_at hl 0 rfl) ?_
          refine lv_iload hx hb dX4_old_42 (lv_at hl 4 rfl) ?_
          refine lv_iload hx hb dX4_old_44 (lv_at hl 3 rfl) ?_
          refine lv_iload_n hx hb dX4_old_46 rfl (lv_at hl 2 rfl) ?_
          refine cl_i (ru_V (As := [.int (nI p), .int (nI (dayOf S.1 k0)), .int (nI k1)]) (rest := []) hF (mX4_isAhead l G ad (mfx (xi y 0 0) w4 go4 fi4) W0 T hT S n9 hS hn9 ⟨m0, m1, m2, m3, m4, m5, m6, m7, m8, m9, m10, m11, m12, m13, m14, m15, m16, m17, m18, m19, m20, m21, m22⟩ p (dayOf S.1 k0) k1 hpl (by omega) (by omega)) (cwV 3 hts (lw_V q1436 q1438 qs55 q66 q1439) rfl rfl rfl (by decide +kernel) ⟨lb hR1 rfl, lb hR4 rfl⟩) hW (List.mem_of_getElem? (i := 0) rfl) (ci := 20) rfl rfl rfl hl.1 rfl (lv_room (Nat.le_of_ble_eq_true rfl)) dX4_old_47 ⟨by omega, by omega⟩) hW (fun r_10 u_11 H locs h_12 hW => ?_)
          have hW : pM G (MWl G ad (mfx (xi y 0 0) w4 go4 fi4) ++ W0) s _ _ := hW
          rcases h_12 with ⟨rfl, b_47⟩ | ⟨rfl, b_47⟩
          · refine lv_if_eq (tgt := 73) hx hb dX4_old_50 (by decide) (fun c_50 => absurd c_50 (by decide)) (fun c_50 => ?_)
            refine lv_aload_n hx hb dX4_old_53 rfl (lv_at hl 0 rfl) ?_
            refine lv_aload_n hx hb dX4_old_54 rfl (lv_at hl 0 rfl) ?_
            refine gM0_paper hF hW q1107 dX4_old_55 ?_
            refine lv_iload hx hb dX4_old_58 (lv_at hl 4 rfl) ?_
            obtain ⟨qp, hqp1, hqp2⟩ := (m3 p hpl).1
            refine lM3 hF hW (j := p) (rfl) (by omega) (r := qp) (hqp1) dX4_old_60 ?_
            refine lv_aload_n hx hb dX4_old_61 rfl (lv_at hl 0 rfl) ?_
            refine gM0_claim hF hW q1110 dX4_old_62 ?_
            refine lv_iload_n hx hb dX4_old_65 rfl (lv_at hl 1 rfl) ?_
            obtain ⟨qc, hqc1, hqc2⟩ := (m9 k0 hk0).1
            refine lM6 hF hW (j := k0) (rfl) (by omega) (r := qc) (hqc1) dX4_old_66 ?_
            have hW : pM G (MWl G ad (mfx (mfx (xi y 0 0) w4 go4 fi4) ((mfx (xi y 0 0) w4 go4 fi4).1 17) ((mfx (xi y 0 0) w4 go4 fi4).2.1 14) ((mfx (xi y 0 0) w4 go4 fi4).2.1 15)) ++ W0) s _ _ := hW
            refine cl_i (ru_V (As := [.ref qp, .ref qc]) (rest := []) hF (mX4_discloses l G ad (mfx (xi y 0 0) w4 go4 fi4) W0 ((mfx (xi y 0 0) w4 go4 fi4).1 17) ((mfx (xi y 0 0) w4 go4 fi4).2.1 14) ((mfx (xi y 0 0) w4 go4 fi4).2.1 15) qc qp (((cC S.1).getD k0 dC).1) (((cP S.1).getD p dP).1) (hqc2.u.mono hT) (hqp2.u.mono hT) (cW S.1).length (WdOk.cg m1.2 (wdF_ok hI)) b0 ((hI.2.2.2.2.1.2 k0 hk0).1.wide) ((hI.2.1.2 _ (getD_mem (d := dP) hpl)).1)) (cwV 2 hts (lw_V q1362 q1364 qs46 q66 q1365) rfl rfl rfl (by decide +kernel) ⟨lb hR1 rfl, lb hR4 rfl⟩) hW (List.mem_of_getElem? (i := 0) rfl) (ci := 20) rfl rfl rfl hl.1 rfl (lv_room (Nat.le_of_ble_eq_true rfl)) dX4_old_67 ⟨by omega, by omega⟩) hW (fun r_ u_ H locs h_ hW => ?_)
            obtain ⟨w2, go2, fi2⟩ := u_
            have hW : pM G (MWl G ad (mfx (xi y 0 0) w2 go2 fi2) ++ W0) s _ _ := hW
            rcases h_ with ⟨rfl, hd⟩ | ⟨rfl, hd⟩
            · have hd : disA S.1 (((cP S.1).getD p dP).1) (((cC S.1).getD k0 dC).1) = true := by unfold disA; rw [← disB_cg (wd := wdF S.1) m1.2 (wdF_ok hI) b0 ((hI.2.1.2 _ (getD_mem (d := dP) hpl)).1)]; exact hd
              refine lv_if_ne (tgt := 79) hx hb dX4_old_70 (by decide) (fun c_70 => ?_) (fun c_70 => absurd c_70 (by decide))
              refine lv_aload_n hx hb dX4_old_79 rfl (lv_at hl 0 rfl) ?_
              refine lv_iload hx hb dX4_old_80 (lv_at hl 4 rfl) ?_
              refine lv_aload_n hx hb dX4_old_82 rfl (lv_at hl 0 rfl) ?_
              refine gM0_papers hF hW q1100 (v := nI (cP S.1).length) (m2) dX4_old_83 ?_
              refine lv_icmp_ge (tgt := 94) hx hb dX4_old_86 (by decide) (fun c_86 => absurd (le_le c_86) (by omega)) (fun c_86 => ?_)
              refine lv_iload hx hb dX4_old_89 (lv_at hl 4 rfl) ?_
              refine lv_goto (tgt := 96) hx hb dX4_old_91 (by decide) ?_
              refine cl_i (ru_V (As := [.int (nI p)]) (rest := []) hF (mX4_done l G ad (mfx (xi y 0 0) w2 go2 fi2) W0 (nI p)) (cwV 1 hts (lw_V q1287 q1289 qs36 q66 q1290) rfl rfl rfl (by decide +kernel) ⟨lb hR1 rfl, lb hR4 rfl⟩) hW (List.mem_of_getElem? (i := 0) rfl) (ci := 20) rfl rfl rfl hl.1 rfl (lv_room (Nat.le_of_ble_eq_true rfl)) dX4_old_96 ⟨by omega, by omega⟩) hW (fun r_13 u_14 H locs h_15 hW => ?_)
              obtain ⟨rfl, rfl⟩ : r_13 = nI p ∧ u_14 = _ := h_15
              have hW : pM G (MWl G ad (xi (xi (mfx (xi y 0 0) w2 go2 fi2) 1 0) 2 (-1)) ++ W0) s _ _ := hW
              exact re_i hF hRt hLk hQ (by omega) (by omega) dX4_old_99 (xi (xi (mfx (xi y 0 0) w2 go2 fi2) 1 0) 2 (-1)) (by unfold oldS; rw [hq]; dsimp only; rw [find_y hpl (by unfold oldB; rw [b_47, hd]; rfl) hno]; exact ⟨rfl, ⟨m0, m1, m2, m3, m4, m5, m6, m7, m8, m9, m10, m11, m12, m13, m14, rfl, m16, rfl, m18, m19, m20, m21, m22⟩⟩) hW
            · have hd : disA S.1 (((cP S.1).getD p dP).1) (((cC S.1).getD k0 dC).1) = false := by unfold disA; rw [← disB_cg (wd := wdF S.1) m1.2 (wdF_ok hI) b0 ((hI.2.1.2 _ (getD_mem (d := dP) hpl)).1)]; exact hd
              refine lv_if_ne (tgt := 79) hx hb dX4_old_70 (by decide) (fun c_70 => absurd c_70 (by decide)) (fun c_70 => ?_)
              refine lv_iinc (v := nI (p + 1)) (lv' := [(5, .int (nI (p + 1))), (0, .ref (ad 0)), (1, .int (nI k0)), (2, .int (nI k1)), (4, .int (nI (dayOf S.1 k0)))]) hx hb dX4_old_73 hl (k := 4) rfl (nI_1 _) (by decide) rfl (fun ls hl => ?_)
              refine lv_goto (tgt := 32) hx hb dX4_old_76 (by decide) ?_
              exact W.widen (by omega) (by omega) (ih (p + 1) w2 go2 fi2 H locs ls (by omega) (by omega) (fun j hj => if h : j = p then h ▸ (by unfold oldB; rw [hd, Bool.and_false]) else hno j (by omega)) hW (lv_sub hl [1, 2, 3, 4, 0] rfl))
          · refine lv_if_eq (tgt := 73) hx hb dX4_old_50 (by decide) (fun c_50 => ?_) (fun c_50 => absurd c_50 (by decide))
            refine lv_iinc (v := nI (p + 1)) (lv' := [(5, .int (nI (p + 1))), (0, .ref (ad 0)), (1, .int (nI k0)), (2, .int (nI k1)), (4, .int (nI (dayOf S.1 k0)))]) hx hb dX4_old_73 hl (k := 4) rfl (nI_1 _) (by decide) rfl (fun ls hl => ?_)
            refine lv_goto (tgt := 32) hx hb dX4_old_76 (by decide) ?_
            exact W.widen (by omega) (by omega) (ih (p + 1) w4 go4 fi4 H locs ls (by omega) (by omega) (fun j hj => if h : j = p then h ▸ (by unfold oldB; rw [b_47]; rfl) else hno j (by omega)) hW (lv_sub hl [1, 2, 3, 4, 0] rfl))
    exact loop_32 _ 0 w go fi _ _ _ (Nat.lt_succ_self _) (Nat.zero_le _) (fun j hj => absurd hj (Nat.not_lt_zero _)) hW (lv_sub hl [3, 4, 5, 1, 0] rfl)
