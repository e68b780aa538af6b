/-! the JDK methods that are reached -/
set_option maxRecDepth 100000 in
set_option maxHeartbeats 4000000 in
theorem mJ6_equals (l : Launch) (G : pG) (ws : va_W) (a b la lb : Nat) (fa fb : Nat → Int32) (ha : (a, .inl (G.2.2.1 1, la, .inl fa)) ∈ ws) (hb0 : (b, .inl (G.2.2.1 1, lb, .inl fb)) ∈ ws) (hla : la ≤ 65536) (hlb : lb ≤ 65536) : Met l yJ6_equals (ws_ yJ6_equals cJ6_equals 3 (some .boolean)) ({ frames := 0, cells := 0, slots := 0, locals := 0 } : Room) (va_Pc [.ref a, .ref b] (fun U => pW G (ws) U)) (va_Qi (fun r (_ : Unit) => (r = 1 ∧ (la = lb ∧ ∀ j, j < la → fa j = fb j)) ∨ (r = 0 ∧ ¬ (la = lb ∧ ∀ j, j < la → fa j = fb j))) (fun (u : Unit) t9 => pW G (ws) t9) (pA G)) 0 0 (pA G) := by
  refine mw (by decide) (Nat.le_of_ble_eq_true rfl) ?_
  intro pp ee R s m below meth c ls Q hF hRt hLk hnm hR hQ hW hl
  have hx := hF.1
  have hb := hF.2.1
  have hts := hF.2.2.2.2
  have hR1 : R.frames = 0 := by rw [hR]
  have hR2 : R.cells = 0 := by rw [hR]
  have hR3 : R.slots = 0 := by rw [hR]
  have hR4 : R.locals = 0 := by rw [hR]
  have hl : lv_has ls 3 [(0, .ref a), (1, .ref b)] := hl
  have hW : pM G (ws) s s.heap [] := hW
  refine lv_aload_n hx hb dJ6_equals_0 rfl (lv_at hl 0 rfl) ?_
  refine al_n hF hW ha 1 rfl (v := nI la) rfl dJ6_equals_1 ?_
  refine lv_aload_n hx hb dJ6_equals_2 rfl (lv_at hl 1 rfl) ?_
  refine al_n hF hW hb0 1 rfl (v := nI lb) rfl dJ6_equals_3 ?_
  refine lv_icmp_ne (tgt := 34) hx hb dJ6_equals_4 (by decide) (fun c_4 => ?_) (fun c_4 => ?_)
  · refine lv_iconst (v := 0) hx hb dJ6_equals_34 (by decide) ?_
    exact re_z hF hRt hLk hQ (by omega) (by omega) (by decide) dJ6_equals_35 () (Or.inr ⟨rfl, fun z => c_4 (by rw [z.1])⟩) hW
  · have hab : la = lb := (nI_eq (by omega) (by omega)).mp c_4
    refine lv_iconst (v := 0) hx hb dJ6_equals_7 (by decide) ?_
    refine lv_istore_n (lv' := [(2, .int 0), (0, .ref a), (1, .ref b)]) hx hb dJ6_equals_8 rfl hl (by decide) rfl (fun ls hl => ?_)
    have loop_9 : ∀ (nn : Nat) (i : Nat) (H : Heap) (locs : List Loc) (ls : Array Slot), la - i < nn → (∀ j, j < i → fa j = fb j) → (i ≤ la) → pM G (ws) s H locs → lv_has ls 3 [(0, .ref a), (1, .ref b), (2, .int (nI i))] → W pp l ee R s m ([.ref a, .ref b] : List Value).toArray below meth c H locs 0 0 Q (F0 m 9 ls []) := by
      intro nn
      induction nn with
      | zero => intro i H locs ls hm; exact absurd hm (Nat.not_lt_zero _)
      | succ nn ih =>
        intro i H locs ls hm hall hile hW hl
        refine lv_iload_n hx hb dJ6_equals_9 rfl (lv_at hl 2 rfl) ?_
        refine lv_aload_n hx hb dJ6_equals_10 rfl (lv_at hl 0 rfl) ?_
        refine al_n hF hW ha 1 rfl (v := nI la) rfl dJ6_equals_11 ?_
        refine lv_icmp_ge (tgt := 32) hx hb dJ6_equals_12 (by decide) (fun c_12 => ?_) (fun c_12 => ?_)
        · refine lv_iconst (v := 1) hx hb dJ6_equals_32 (by decide) ?_
          exact re_z hF hRt hLk hQ (by omega) (by omega) (by decide) dJ6_equals_33 () (Or.inl ⟨rfl, hab, fun j hj => hall j (by have := le_le c_12; omega)⟩) hW
        · have hi : i < la := nle_lt c_12
          refine lv_aload_n hx hb dJ6_equals_15 rfl (lv_at hl 0 rfl) ?_
          refine lv_iload_n hx hb dJ6_equals_16 rfl (lv_at hl 2 rfl) ?_
          refine al_b hF hW ha 1 rfl (j := i) (rfl) (by omega) (hla) dJ6_equals_17 ?_
          refine lv_aload_n hx hb dJ6_equals_18 rfl (lv_at hl 1 rfl) ?_
          refine lv_iload_n hx hb dJ6_equals_19 rfl (lv_at hl 2 rfl) ?_
          refine al_b hF hW hb0 1 rfl (j := i) (rfl) (by omega) (hlb) dJ6_equals_20 ?_
          refine lv_icmp_eq (tgt := 26) hx hb dJ6_equals_21 (by decide) (fun c_21 => ?_) (fun c_21 => ?_)
          · refine lv_iinc (v := nI (i + 1)) (lv' := [(2, .int (nI (i + 1))), (0, .ref a), (1, .ref b)]) hx hb dJ6_equals_26 hl (k := 2) rfl (nI_1 _) (by decide) rfl (fun ls hl => ?_)
            refine lv_goto (tgt := 9) hx hb dJ6_equals_29 (by decide) ?_
            exact ih (i + 1) H locs ls (by omega) (fun j hj => if h : j = i then h ▸ c_21 else hall j (by omega)) (by omega) hW (lv_sub hl [1, 2, 0] rfl)
          · refine lv_iconst (v := 0) hx hb dJ6_equals_24 (by decide) ?_
            exact re_z hF hRt hLk hQ (by omega) (by omega) (by decide) dJ6_equals_25 () (Or.inr ⟨rfl, fun z => c_21 (z.2 i hi)⟩) hW
    exact loop_9 _ 0 _ _ _ (Nat.lt_succ_self _) (fun j hj => absurd hj (Nat.not_lt_zero j)) (Nat.zero_le _) hW (lv_sub hl [1, 2, 0] rfl)

set_option maxRecDepth 100000 in
set_option maxHeartbeats 4000000 in
theorem mJ3_equals (l : Launch) (G : pG) (ws : va_W) (a b : Nat) (n1 n2 : List Nat) (h1 : HS G ws a n1) (h2 : HS G ws b n2) : Met l yJ3_equals (ws_ yJ3_equals cJ3_equals 3 (some .boolean)) ({ frames := 1, cells := 0, slots := 0, locals := 22 } : Room) (va_Pc [.ref a, .ref b] (fun U => pW G (ws) U)) (va_Qi (fun r (_ : Unit) => (r = 1 ∧ n1 = n2) ∨ (r = 0 ∧ ¬ n1 = n2)) (fun (u : Unit) t9 => pW G (ws) t9) (pA G)) 0 0 (pA G) := by
  refine mw (by decide) (Nat.le_of_ble_eq_true rfl) ?_
  intro pp ee R s m below meth c ls Q hF hRt hLk hnm hR hQ hW hl
  have hx := hF.1
  have hb := hF.2.1
  have hts := hF.2.2.2.2
  have hR1 : R.frames = 1 := by rw [hR]
  have hR2 : R.cells = 0 := by rw [hR]
  have hR3 : R.slots = 0 := by rw [hR]
  have hR4 : R.locals = 22 := by rw [hR]
  have hl : lv_has ls 3 [(0, .ref a), (1, .ref b)] := hl
  have hW : pM G (ws) s s.heap [] := hW
  have h1c := h1
  have h2c := h2
  obtain ⟨b1, f1, k11, k12, k13, k14⟩ := h1c
  obtain ⟨b2, f2, k21, k22, k23, k24⟩ := h2c
  refine lv_aload_n hx hb dJ3_equals_0 rfl (lv_at hl 0 rfl) ?_
  refine lv_aload_n hx hb dJ3_equals_1 rfl (lv_at hl 1 rfl) ?_
  refine lv_acmp_ne (tgt := 7) (rx := some a) (ry := some b) hx hb dJ3_equals_2 (by decide) (fun c_2 => ?_) (fun c_2 => ?_)
  · refine lv_aload_n hx hb dJ3_equals_7 rfl (lv_at hl 1 rfl) ?_
    refine va_instS hx hb hF.2.2.2.1 (hts _ q478) (hW.1.1 19 _ rfl).2 (rcv hW k21 rfl) dJ3_equals_8 ?_
    refine lv_if_eq (tgt := 54) hx hb dJ3_equals_11 (by decide) (fun c_11 => absurd c_11 (by decide)) (fun c_11 => ?_)
    refine lv_aload_n hx hb dJ3_equals_14 rfl (lv_at hl 1 rfl) ?_
    refine va_castS hx hb hF.2.2.2.1 (hts _ q478) (hW.1.1 19 _ rfl).2 (rcv hW k21 rfl) dJ3_equals_15 ?_
    refine lv_astore_n (lv' := [(2, .ref b), (0, .ref a), (1, .ref b)]) hx hb dJ3_equals_18 rfl hl (by decide) rfl (fun ls hl => ?_)
    refine gs hF hW hW.2.2.2.2.2.2.2.1 q414 dJ3_equals_19 ?_
    refine lv_if_eq (tgt := 36) hx hb dJ3_equals_22 (by decide) (fun c_22 => absurd c_22 (by decide)) (fun c_22 => ?_)
    refine lv_aload_n hx hb dJ3_equals_25 rfl (lv_at hl 1 rfl) ?_
    refine gt hF hW k11 (ci := 19) rfl in_J3 1 (by decide) q459 rfl (v := .int 0) rfl dJ3_equals_26 ?_
    refine lv_aload_n hx hb dJ3_equals_29 rfl (lv_at hl 0 rfl) ?_
    refine gt hF hW k21 (ci := 19) rfl in_J3 1 (by decide) q459 rfl (v := .int 0) rfl dJ3_equals_30 ?_
    refine lv_icmp_ne (tgt := 54) hx hb dJ3_equals_33 (by decide) (fun c_33 => absurd c_33 (by decide)) (fun c_33 => ?_)
    refine lv_aload_n hx hb dJ3_equals_36 rfl (lv_at hl 1 rfl) ?_
    refine gt hF hW k11 (ci := 19) rfl in_J3 0 (by decide) q458 rfl (v := .ref b1) rfl dJ3_equals_37 ?_
    refine lv_aload_n hx hb dJ3_equals_40 rfl (lv_at hl 0 rfl) ?_
    refine gt hF hW k21 (ci := 19) rfl in_J3 0 (by decide) q458 rfl (v := .ref b2) rfl dJ3_equals_41 ?_
    refine cl_i (ru_S (As := [.ref b1, .ref b2]) (rest := []) hF (mJ6_equals l G (ws) b1 b2 n1.length n2.length f1 f2 k12 k22 (by omega) (by omega)) (va_cwS 2 hts (lw_S q479 q480 q72 q481) rfl rfl rfl (by decide +kernel) ⟨lb hR1 rfl, lb hR4 rfl⟩) hW rfl rfl hl.1 rfl (lv_room (Nat.le_of_ble_eq_true rfl)) dJ3_equals_44 ⟨by omega, by omega⟩) hW (fun r_1 u_2 H locs h_3 hW => ?_)
    have hW : pM G (ws) s _ _ := hW
    rcases h_3 with ⟨rfl, b_44⟩ | ⟨rfl, b_44⟩
    · refine lv_if_eq (tgt := 54) hx hb dJ3_equals_47 (by decide) (fun c_47 => absurd c_47 (by decide)) (fun c_47 => ?_)
      refine lv_iconst (v := 1) hx hb dJ3_equals_50 (by decide) ?_
      refine lv_goto (tgt := 55) hx hb dJ3_equals_51 (by decide) ?_
      exact re_z hF hRt hLk hQ (by omega) (by omega) (by decide) dJ3_equals_55 () (Or.inl ⟨rfl, (str_eq k14 k24).mp b_44⟩) hW
    · refine lv_if_eq (tgt := 54) hx hb dJ3_equals_47 (by decide) (fun c_47 => ?_) (fun c_47 => absurd c_47 (by decide))
      refine lv_iconst (v := 0) hx hb dJ3_equals_54 (by decide) ?_
      exact re_z hF hRt hLk hQ (by omega) (by omega) (by decide) dJ3_equals_55 () (Or.inr ⟨rfl, fun z => b_44 ((str_eq k14 k24).mpr z)⟩) hW
  · refine lv_iconst (v := 1) hx hb dJ3_equals_5 (by decide) ?_
    exact re_z hF hRt hLk hQ (by omega) (by omega) (by decide) dJ3_equals_6 () (Or.inl ⟨rfl, HS.one hW h1 (Option.some.inj c_2 ▸ h2)⟩) hW

theorem nI_or (a b : Nat) : nI a ||| nI b = nI (a ||| b) := by
  apply Int32.toBitVec_inj.1
  show BitVec.ofNat 32 a ||| BitVec.ofNat 32 b = BitVec.ofNat 32 (a ||| b)
  apply BitVec.eq_of_getLsbD_eq
  intro i hi
  simp [hi]
theorem bnd0 {n N : Nat} (hN : N ≤ 65536) (h : n ≤ N) : ¬ ((nI N ||| 0) ||| nI n) < 0 ∧ nI n ≤ nI N - 0 := by
  refine ⟨?_, ?_⟩
  · show ¬ ((nI N ||| nI 0) ||| nI n) < 0
    rw [nI_or, nI_or]
    exact nI_pos (Nat.or_lt_two_pow (Nat.or_lt_two_pow (by omega) (by omega)) (by omega))
  · rw [show nI N - 0 = nI N by exact Int32.sub_zero _]
    exact nI_le h (by omega)
set_option maxRecDepth 100000 in
set_option maxHeartbeats 4000000 in
theorem mJ4_c0 (l : Launch) (G : pG) (ws : va_W) (n N fz : Nat) (hN : N ≤ 65536) (h : n ≤ N) : Met l yJ4_checkFromIndexSize (ws_ yJ4_checkFromIndexSize cJ4_checkFromIndexSize 4 (some .int)) ({ frames := 0, cells := 0, slots := 0, locals := 0 } : Room) (va_Pc [.int 0, .int (nI n), .int (nI N), .null] (fun U => pW G (ws) U)) (va_Qi (fun r (_ : Unit) => r = 0) (fun (u : Unit) t9 => pW G (ws) t9) (pA G)) 0 0 (pA G) := by
  refine mw (by decide) (Nat.le_of_ble_eq_true rfl) ?_
  intro pp ee R s m below meth c ls Q hF hRt hLk hnm hR hQ hW hl
  have hx := hF.1
  have hb := hF.2.1
  have hts := hF.2.2.2.2
  have hR1 : R.frames = 0 := by rw [hR]
  have hR2 : R.cells = 0 := by rw [hR]
  have hR3 : R.slots = 0 := by rw [hR]
  have hR4 : R.locals = 0 := by rw [hR]
  have hl : lv_has ls 4 [(0, .int 0), (1, .int (nI n)), (2, .int (nI N)), (3, .null)] := hl
  have hW : pM G (ws) s s.heap [] := hW
  refine lv_iload_n hx hb dJ4_checkFromIndexSize_0 rfl (lv_at hl 2 rfl) ?_
  refine lv_iload_n hx hb dJ4_checkFromIndexSize_1 rfl (lv_at hl 0 rfl) ?_
  refine lv_ior hx hb dJ4_checkFromIndexSize_2 ?_
  refine lv_iload_n hx hb dJ4_checkFromIndexSize_3 rfl (lv_at hl 1 rfl) ?_
  refine lv_ior hx hb dJ4_checkFromIndexSize_4 ?_
  refine lv_if_lt (tgt := 15) hx hb dJ4_checkFromIndexSize_5 (by decide) (fun c_5 => absurd c_5 (bnd0 hN h).1) (fun c_5 => ?_)
  refine lv_iload_n hx hb dJ4_checkFromIndexSize_8 rfl (lv_at hl 1 rfl) ?_
  refine lv_iload_n hx hb dJ4_checkFromIndexSize_9 rfl (lv_at hl 2 rfl) ?_
  refine lv_iload_n hx hb dJ4_checkFromIndexSize_10 rfl (lv_at hl 0 rfl) ?_
  refine lv_isub hx hb dJ4_checkFromIndexSize_11 ?_
  refine lv_icmp_le (tgt := 23) hx hb dJ4_checkFromIndexSize_12 (by decide) (fun c_12 => ?_) (fun c_12 => absurd (bnd0 hN h).2 c_12)
  refine lv_iload_n hx hb dJ4_checkFromIndexSize_23 rfl (lv_at hl 0 rfl) ?_
  exact re_i hF hRt hLk hQ (by omega) (by omega) dJ4_checkFromIndexSize_24 () (rfl) hW

set_option maxRecDepth 100000 in
set_option maxHeartbeats 4000000 in
theorem mJ4_c1 (l : Launch) (G : pG) (ws : va_W) (n N fz : Nat) (hN : N ≤ 65536) (h : n ≤ N) : Met l yJ4_checkFromIndexSize (ws_ yJ4_checkFromIndexSize cJ4_checkFromIndexSize 4 (some .int)) ({ frames := 0, cells := 0, slots := 0, locals := 0 } : Room) (va_Pc [.int 0, .int (nI n), .int (nI N), .ref fz] (fun U => pW G (ws) U)) (va_Qi (fun r (_ : Unit) => r = 0) (fun (u : Unit) t9 => pW G (ws) t9) (pA G)) 0 0 (pA G) := by
  refine mw (by decide) (Nat.le_of_ble_eq_true rfl) ?_
  intro pp ee R s m below meth c ls Q hF hRt hLk hnm hR hQ hW hl
  have hx := hF.1
  have hb := hF.2.1
  have hts := hF.2.2.2.2
  have hR1 : R.frames = 0 := by rw [hR]
  have hR2 : R.cells = 0 := by rw [hR]
  have hR3 : R.slots = 0 := by rw [hR]
  have hR4 : R.locals = 0 := by rw [hR]
  have hl : lv_has ls 4 [(0, .int 0), (1, .int (nI n)), (2, .int (nI N)), (3, .ref fz)] := hl
  have hW : pM G (ws) s s.heap [] := hW
  refine lv_iload_n hx hb dJ4_checkFromIndexSize_0 rfl (lv_at hl 2 rfl) ?_
  refine lv_iload_n hx hb dJ4_checkFromIndexSize_1 rfl (lv_at hl 0 rfl) ?_
  refine lv_ior hx hb dJ4_checkFromIndexSize_2 ?_
  refine lv_iload_n hx hb dJ4_checkFromIndexSize_3 rfl (lv_at hl 1 rfl) ?_
  refine lv_ior hx hb dJ4_checkFromIndexSize_4 ?_
  refine lv_if_lt (tgt := 15) hx hb dJ4_checkFromIndexSize_5 (by decide) (fun c_5 => absurd c_5 (bnd0 hN h).1) (fun c_5 => ?_)
  refine lv_iload_n hx hb dJ4_checkFromIndexSize_8 rfl (lv_at hl 1 rfl) ?_
  refine lv_iload_n hx hb dJ4_checkFromIndexSize_9 rfl (lv_at hl 2 rfl) ?_
  refine lv_iload_n hx hb dJ4_checkFromIndexSize_10 rfl (lv_at hl 0 rfl) ?_
  refine lv_isub hx hb dJ4_checkFromIndexSize_11 ?_
  refine lv_icmp_le (tgt := 23) hx hb dJ4_checkFromIndexSize_12 (by decide) (fun c_12 => ?_) (fun c_12 => absurd (bnd0 hN h).2 c_12)
  refine lv_iload_n hx hb dJ4_checkFromIndexSize_23 rfl (lv_at hl 0 rfl) ?_
  exact re_i hF hRt hLk hQ (by omega) (by omega) dJ4_checkFromIndexSize_24 () (rfl) hW

set_option maxRecDepth 100000 in
set_option maxHeartbeats 4000000 in
theorem mJ3_checkBoundsOffCount (l : Launch) (G : pG) (ws : va_W) (n N : Nat) (hN : N ≤ 65536) (h : n ≤ N) : Met l yJ3_checkBoundsOffCount (ws_ yJ3_checkBoundsOffCount cJ3_checkBoundsOffCount 3 (some .int)) ({ frames := 1, cells := 0, slots := 0, locals := 23 } : Room) (va_Pc [.int 0, .int (nI n), .int (nI N)] (fun U => pW G (ws) U)) (va_Qi (fun r (_ : Unit) => r = 0) (fun (u : Unit) t9 => pW G (ws) t9) (pA G)) 0 0 (pA G) := by
  refine mw (by decide) (Nat.le_of_ble_eq_true rfl) ?_
  intro pp ee R s m below meth c ls Q hF hRt hLk hnm hR hQ hW hl
  have hx := hF.1
  have hb := hF.2.1
  have hts := hF.2.2.2.2
  have hR1 : R.frames = 1 := by rw [hR]
  have hR2 : R.cells = 0 := by rw [hR]
  have hR3 : R.slots = 0 := by rw [hR]
  have hR4 : R.locals = 23 := by rw [hR]
  have hl : lv_has ls 3 [(0, .int 0), (1, .int (nI n)), (2, .int (nI N))] := hl
  have hW : pM G (ws) s s.heap [] := hW
  refine lv_iload_n hx hb dJ3_checkBoundsOffCount_0 rfl (lv_at hl 0 rfl) ?_
  refine lv_iload_n hx hb dJ3_checkBoundsOffCount_1 rfl (lv_at hl 1 rfl) ?_
  refine lv_iload_n hx hb dJ3_checkBoundsOffCount_2 rfl (lv_at hl 2 rfl) ?_
  obtain ⟨zr_1, hz_2⟩ := zq hW.2.2.2.2.2.2.2.2.1
  refine gs hF hW hz_2 q404 dJ3_checkBoundsOffCount_3 ?_
  cases zr_1 with
  | none =>
    refine lv_eqv (y := .null) rfl ?_
    refine cl_i (ru_S (As := [.int 0, .int (nI n), .int (nI N), .null]) (rest := []) hF (mJ4_c0 l G (ws) n N 0 hN h) (va_cwS 4 hts (lw_S q406 q407 q70 q408) rfl rfl rfl (by decide +kernel) ⟨lb hR1 rfl, lb hR4 rfl⟩) hW rfl rfl hl.1 rfl (lv_room (Nat.le_of_ble_eq_true rfl)) dJ3_checkBoundsOffCount_6 ⟨by omega, by omega⟩) hW (fun r_3 u_4 H locs h_5 hW => ?_)
    obtain rfl : r_3 = 0 := h_5
    have hW : pM G (ws) s _ _ := hW
    exact re_i hF hRt hLk hQ (by omega) (by omega) dJ3_checkBoundsOffCount_9 () (rfl) hW
  | some zr_1 =>
    refine lv_eqv (y := .ref zr_1) rfl ?_
    refine cl_i (ru_S (As := [.int 0, .int (nI n), .int (nI N), .ref zr_1]) (rest := []) hF (mJ4_c1 l G (ws) n N zr_1 hN h) (va_cwS 4 hts (lw_S q406 q407 q70 q408) rfl rfl rfl (by decide +kernel) ⟨lb hR1 rfl, lb hR4 rfl⟩) hW rfl rfl hl.1 rfl (lv_room (Nat.le_of_ble_eq_true rfl)) dJ3_checkBoundsOffCount_6 ⟨by omega, by omega⟩) hW (fun r_6 u_7 H locs h_8 hW => ?_)
    obtain rfl : r_6 = 0 := h_8
    have hW : pM G (ws) s _ _ := hW
    exact re_i hF hRt hLk hQ (by omega) (by omega) dJ3_checkBoundsOffCount_9 () (rfl) hW

set_option maxRecDepth 100000 in
set_option maxHeartbeats 4000000 in
theorem mJ3_rangeCheck (l : Launch) (G : pG) (ws : va_W) (a n N : Nat) (f : Nat → Int32) (ha : (a, .inl (G.2.2.1 2, N, .inl f)) ∈ ws) (hN : N ≤ 65536) (h : n ≤ N) : Met l yJ3_rangeCheck (ws_ yJ3_rangeCheck cJ3_rangeCheck 3 (some (.object "java/lang/Void"))) ({ frames := 2, cells := 0, slots := 0, locals := 45 } : Room) (va_Pc [.ref a, .int 0, .int (nI n)] (fun U => pW G (ws) U)) (va_Qq (fun r (_ : Unit) => r = none) (fun (u : Unit) t9 => pW G (ws) t9) (pA G)) 0 0 (pA G) := by
  refine mw (by decide) (Nat.le_of_ble_eq_true rfl) ?_
  intro pp ee R s m below meth c ls Q hF hRt hLk hnm hR hQ hW hl
  have hx := hF.1
  have hb := hF.2.1
  have hts := hF.2.2.2.2
  have hR1 : R.frames = 2 := by rw [hR]
  have hR2 : R.cells = 0 := by rw [hR]
  have hR3 : R.slots = 0 := by rw [hR]
  have hR4 : R.locals = 45 := by rw [hR]
  have hl : lv_has ls 3 [(0, .ref a), (1, .int 0), (2, .int (nI n))] := hl
  have hW : pM G (ws) s s.heap [] := hW
  refine lv_iload_n hx hb dJ3_rangeCheck_0 rfl (lv_at hl 1 rfl) ?_
  refine lv_iload_n hx hb dJ3_rangeCheck_1 rfl (lv_at hl 2 rfl) ?_
  refine lv_aload_n hx hb dJ3_rangeCheck_2 rfl (lv_at hl 0 rfl) ?_
  refine al_n hF hW ha 2 rfl (v := nI N) rfl dJ3_rangeCheck_3 ?_
  refine cl_i (ru_S (As := [.int 0, .int (nI n), .int (nI N)]) (rest := []) hF (mJ3_checkBoundsOffCount l G (ws) n N hN h) (va_cwS 3 hts (lw_S q401 q402 q69 q403) rfl rfl rfl (by decide +kernel) ⟨lb hR1 rfl, lb hR4 rfl⟩) hW rfl rfl hl.1 rfl (lv_room (Nat.le_of_ble_eq_true rfl)) dJ3_rangeCheck_4 ⟨by omega, by omega⟩) hW (fun r_1 u_2 H locs h_3 hW => ?_)
  obtain rfl : r_1 = 0 := h_3
  have hW : pM G (ws) s _ _ := hW
  refine lv_pop hx hb dJ3_rangeCheck_7 rfl ?_
  refine lv_null hx hb dJ3_rangeCheck_8 ?_
  exact re_q hF hRt (Or.inl ⟨_, rfl⟩) hLk hQ (by omega) (by omega) dJ3_rangeCheck_9 none rfl () (rfl) hW

theorem cod0 (n : Int32) : ((n - n).toUInt32 >>> ((31 : Int32).toUInt32 &&& Int32.toUInt32 31)).toInt32 = 0 := by
  rw [Int32.sub_self]
  decide
set_option maxRecDepth 100000 in
set_option maxHeartbeats 4000000 in
theorem mJ5_coderFromArrayLen (l : Launch) (G : pG) (ws : va_W) (b n : Nat) (f : Nat → Int32) (hb0 : (b, .inl (G.2.2.1 1, n, .inl f)) ∈ ws) (hn : n ≤ 65536) : Met l yJ5_coderFromArrayLen (ws_ yJ5_coderFromArrayLen cJ5_coderFromArrayLen 2 (some .byte)) ({ frames := 0, cells := 0, slots := 0, locals := 0 } : Room) (va_Pc [.ref b, .int (nI n)] (fun U => pW G (ws) U)) (va_Qi (fun r (_ : Unit) => r = 0) (fun (u : Unit) t9 => pW G (ws) t9) (pA G)) 0 0 (pA G) := by
  refine mw (by decide) (Nat.le_of_ble_eq_true rfl) ?_
  intro pp ee R s m below meth c ls Q hF hRt hLk hnm hR hQ hW hl
  have hx := hF.1
  have hb := hF.2.1
  have hts := hF.2.2.2.2
  have hR1 : R.frames = 0 := by rw [hR]
  have hR2 : R.cells = 0 := by rw [hR]
  have hR3 : R.slots = 0 := by rw [hR]
  have hR4 : R.locals = 0 := by rw [hR]
  have hl : lv_has ls 2 [(0, .ref b), (1, .int (nI n))] := hl
  have hW : pM G (ws) s s.heap [] := hW
  refine lv_iload_n hx hb dJ5_coderFromArrayLen_0 rfl (lv_at hl 1 rfl) ?_
  refine lv_aload_n hx hb dJ5_coderFromArrayLen_1 rfl (lv_at hl 0 rfl) ?_
  refine al_n hF hW hb0 1 rfl (v := nI n) rfl dJ5_coderFromArrayLen_2 ?_
  refine lv_isub hx hb dJ5_coderFromArrayLen_3 ?_
  refine lv_bipush (v := 31) hx hb dJ5_coderFromArrayLen_4 (by decide) ?_
  refine lv_iushr (v := 0) hx hb dJ5_coderFromArrayLen_6 (cod0 _) ?_
  refine lv_i2b hx hb dJ5_coderFromArrayLen_7 rfl ?_
  refine lv_eqi (show (0 : Int32).toInt8.toInt32 = 0 from by decide) ?_
  exact re_z hF hRt hLk hQ (by omega) (by omega) (by decide) dJ5_coderFromArrayLen_8 () (rfl) hW

theorem nb_small : ∀ k, k < 128 → vp_nar .byte (nI k).toInt8.toInt32 = nI k := by decide +kernel
theorem up_s {α : Type} {f : Nat → α} {k : Nat} {x : α} : va_up f k x k = x := by unfold va_up; simp
theorem up_n {α : Type} {f : Nat → α} {k j : Nat} {x : α} (h : ¬ j = k) : va_up f k x j = f j := by unfold va_up; simp [h]
theorem up_all {α : Type} {g F : Nat → α} {i : Nat} {v : α} (hg : ∀ j, j < i → g j = F j) (hv : v = F i) : ∀ j, j < i + 1 → va_up g i v j = F j := by
  intro j hj
  by_cases h : j = i
  · subst h; rw [up_s]; exact hv
  · rw [up_n h]; exact hg j (by omega)
set_option maxRecDepth 100000 in
set_option maxHeartbeats 4000000 in
theorem mJ5_compress_2 (l : Launch) (G : pG) (Z : va_W) (a N d n : Nat) (f g : Nat → Int32) (ch : Nat → Nat) (ha : (a, .inl (G.2.2.1 2, N, .inl f)) ∈ Z) (hN : N ≤ 65536) (hn : n ≤ N) (hf : ∀ j, j < n → f j = nI (ch j) ∧ ch j < 128) : Met l yJ5_compress_2 (ws_ yJ5_compress_2 cJ5_compress_2 7 (some .int)) ({ frames := 0, cells := 0, slots := 0, locals := 0 } : Room) (va_Pc [.ref a, .int 0, .ref d, .int 0, .int (nI n)] (fun U => pW G (Z ++ ((d, .inl (G.2.2.1 1, n, .inl g)) :: [])) U)) (va_Qi (fun r (u : Nat → Int32) => r = nI n ∧ ∀ j, j < n → u j = nI (ch j)) (fun (u : Nat → Int32) t9 => pW G (Z ++ ((d, .inl (G.2.2.1 1, n, .inl u)) :: [])) t9) (pA G)) 0 0 (pA G) := by
  refine mw (by decide) (Nat.le_of_ble_eq_true rfl) ?_
  intro pp ee R s m below meth c ls Q hF hRt hLk hnm hR hQ hW hl
  have hx := hF.1
  have hb := hF.2.1
  have hts := hF.2.2.2.2
  have hR1 : R.frames = 0 := by rw [hR]
  have hR2 : R.cells = 0 := by rw [hR]
  have hR3 : R.slots = 0 := by rw [hR]
  have hR4 : R.locals = 0 := by rw [hR]
  have hl : lv_has ls 7 [(0, .ref a), (1, .int 0), (2, .ref d), (3, .int 0), (4, .int (nI n))] := hl
  have hW : pM G (Z ++ ((d, .inl (G.2.2.1 1, n, .inl g)) :: [])) s s.heap [] := hW
  refine lv_iconst (v := 0) hx hb dJ5_compress_2_0 (by decide) ?_
  refine lv_istore (lv' := [(5, .int 0), (0, .ref a), (1, .int 0), (2, .ref d), (3, .int 0), (4, .int (nI n))]) hx hb dJ5_compress_2_1 hl (by decide) rfl (fun ls hl => ?_)
  have loop_3 : ∀ (nn : Nat) (i : Nat) (g : Nat → Int32) (H : Heap) (locs : List Loc) (ls : Array Slot), n - i < nn → (i ≤ n) → (∀ j, j < i → g j = nI (ch j)) → pM G (Z ++ ((d, .inl (G.2.2.1 1, n, .inl g)) :: [])) s H locs → lv_has ls 7 [(0, .ref a), (1, .int (nI i)), (2, .ref d), (3, .int (nI i)), (4, .int (nI n)), (5, .int (nI i))] → W pp l ee R s m ([.ref a, .int 0, .ref d, .int 0, .int (nI n)] : List Value).toArray below meth c H locs 0 0 Q (F0 m 3 ls []) := by
    intro nn
    induction nn with
    | zero => intro i g H locs ls hm; exact absurd hm (Nat.not_lt_zero _)
    | succ nn ih =>
      intro i g H locs ls hm hi hg hW hl
      refine lv_iload hx hb dJ5_compress_2_3 (lv_at hl 5 rfl) ?_
      refine lv_iload hx hb dJ5_compress_2_5 (lv_at hl 4 rfl) ?_
      refine lv_icmp_ge (tgt := 44) hx hb dJ5_compress_2_7 (by decide) (fun c_7 => ?_) (fun c_7 => ?_)
      · refine lv_iload hx hb dJ5_compress_2_44 (lv_at hl 4 rfl) ?_
        exact re_i hF hRt hLk hQ (by omega) (by omega) dJ5_compress_2_46 g (⟨rfl, fun j hj => hg j (by have := le_le c_7; omega)⟩) hW
      · have hin : i < n := nle_lt c_7
        refine lv_aload_n hx hb dJ5_compress_2_10 rfl (lv_at hl 0 rfl) ?_
        refine lv_iload_n hx hb dJ5_compress_2_11 rfl (lv_at hl 1 rfl) ?_
        refine al_c hF hW (ms_l ha) 2 rfl (j := i) (rfl) (by omega) (hN) dJ5_compress_2_12 ?_
        refine lv_eqv (congrArg Value.int (show f i = nI (ch i) from (hf i hin).1)) ?_
        refine lv_istore (lv' := [(6, .int (nI (ch i))), (0, .ref a), (1, .int (nI i)), (2, .ref d), (3, .int (nI i)), (4, .int (nI n)), (5, .int (nI i))]) hx hb dJ5_compress_2_13 hl (by decide) rfl (fun ls hl => ?_)
        refine lv_iload hx hb dJ5_compress_2_15 (lv_at hl 0 rfl) ?_
        refine lv_sipush (v := 255) hx hb dJ5_compress_2_17 (by decide) ?_
        refine lv_icmp_le (tgt := 26) hx hb dJ5_compress_2_20 (by decide) (fun c_20 => ?_) (fun c_20 => absurd (nI_le (a := ch i) (b := 255) (by have := (hf i hin).2; omega) (by omega)) c_20)
        refine lv_aload_n hx hb dJ5_compress_2_26 rfl (lv_at hl 3 rfl) ?_
        refine lv_iload_n hx hb dJ5_compress_2_27 rfl (lv_at hl 4 rfl) ?_
        refine lv_iload hx hb dJ5_compress_2_28 (lv_at hl 0 rfl) ?_
        refine lv_i2b hx hb dJ5_compress_2_30 rfl ?_
        refine az_b (Z) [] ([]) hF hW 1 rfl (j := i) (rfl) (by omega) (by omega) dJ5_compress_2_31 (fun H locs hW => ?_)
        have hW : pM G (Z ++ ((d, .inl (G.2.2.1 1, n, .inl (va_up g i (vp_nar .byte ((nI (ch i)).toInt8.toInt32))))) :: [])) s _ _ := hW
        refine lv_iinc (v := nI (i + 1)) (lv' := [(1, .int (nI (i + 1))), (6, .int (nI (ch i))), (0, .ref a), (2, .ref d), (3, .int (nI i)), (4, .int (nI n)), (5, .int (nI i))]) hx hb dJ5_compress_2_32 hl (k := 2) rfl (nI_1 _) (by decide) rfl (fun ls hl => ?_)
        refine lv_iinc (v := nI (i + 1)) (lv' := [(3, .int (nI (i + 1))), (1, .int (nI (i + 1))), (6, .int (nI (ch i))), (0, .ref a), (2, .ref d), (4, .int (nI n)), (5, .int (nI i))]) hx hb dJ5_compress_2_35 hl (k := 4) rfl (nI_1 _) (by decide) rfl (fun ls hl => ?_)
        refine lv_iinc (v := nI (i + 1)) (lv' := [(5, .int (nI (i + 1))), (3, .int (nI (i + 1))), (1, .int (nI (i + 1))), (6, .int (nI (ch i))), (0, .ref a), (2, .ref d), (4, .int (nI n))]) hx hb dJ5_compress_2_38 hl (k := 6) rfl (nI_1 _) (by decide) rfl (fun ls hl => ?_)
        refine lv_goto (tgt := 3) hx hb dJ5_compress_2_41 (by decide) ?_
        exact ih (i + 1) (va_up g i (vp_nar .byte ((nI (ch i)).toInt8.toInt32))) H locs ls (by omega) (by omega) (up_all (F := fun j => nI (ch j)) hg (nb_small _ (hf i hin).2)) hW (lv_sub hl [4, 2, 5, 1, 6, 0] rfl)
  exact loop_3 _ 0 g _ _ _ (Nat.lt_succ_self _) (Nat.zero_le _) (fun j hj => absurd hj (Nat.not_lt_zero j)) hW (lv_sub hl [1, 2, 3, 4, 5, 0] rfl)

set_option maxRecDepth 100000 in
set_option maxHeartbeats 4000000 in
theorem mJ5_compress (l : Launch) (G : pG) (ws : va_W) (a N n : Nat) (f : Nat → Int32) (ch : Nat → Nat) (ha : (a, .inl (G.2.2.1 2, N, .inl f)) ∈ ws) (hN : N ≤ 65536) (hn : n ≤ N) (hn2 : n ≤ 10) (hf : ∀ j, j < n → f j = nI (ch j) ∧ ch j < 128) : Met l yJ5_compress (ws_ yJ5_compress cJ5_compress 6 (some (.array .byte))) ({ frames := 1, cells := 1, slots := 10, locals := 26 } : Room) (va_Pc [.ref a, .int 0, .int (nI n)] (fun U => pW G (ws) U)) (va_Qr (fun (u : Nat → Int32) => ∀ j, j < n → u j = nI (ch j)) (fun (u : Nat → Int32) (ra : Nat) t9 => pW G (ws ++ [(ra, .inl (G.2.2.1 1, n, .inl u))]) t9) (pA G)) 1 10 (pA G) := by
  refine mw (by decide) (Nat.le_of_ble_eq_true rfl) ?_
  intro pp ee R s m below meth c ls Q hF hRt hLk hnm hR hQ hW hl
  have hx := hF.1
  have hb := hF.2.1
  have hts := hF.2.2.2.2
  have hR1 : R.frames = 1 := by rw [hR]
  have hR2 : R.cells = 1 := by rw [hR]
  have hR3 : R.slots = 10 := by rw [hR]
  have hR4 : R.locals = 26 := by rw [hR]
  have hl : lv_has ls 6 [(0, .ref a), (1, .int 0), (2, .int (nI n))] := hl
  have hW : pM G (ws) s s.heap [] := hW
  refine lv_iload_n hx hb dJ5_compress_0 rfl (lv_at hl 2 rfl) ?_
  refine na (atype := .byte) (N' := n) (a0 := (n, .inl (fun _ => 0))) hF hW q182 rfl 1 rfl (fun _ => rfl) (rfl) (by omega) (by decide) (by omega) (by omega) dJ5_compress_1 (fun qa_1 H hW => ?_)
  have hW : pM G (ws ++ [(qa_1, .inl (G.2.2.1 1, n, .inl (fun _ => 0)))]) s _ _ := hW
  refine lv_astore_n (lv' := [(3, .ref qa_1), (0, .ref a), (1, .int 0), (2, .int (nI n))]) hx hb dJ5_compress_3 rfl hl (by decide) rfl (fun ls hl => ?_)
  refine lv_aload_n hx hb dJ5_compress_4 rfl (lv_at hl 1 rfl) ?_
  refine lv_iload_n hx hb dJ5_compress_5 rfl (lv_at hl 2 rfl) ?_
  refine lv_aload_n hx hb dJ5_compress_6 rfl (lv_at hl 0 rfl) ?_
  refine lv_iconst (v := 0) hx hb dJ5_compress_7 (by decide) ?_
  refine lv_iload_n hx hb dJ5_compress_8 rfl (lv_at hl 3 rfl) ?_
  refine cl_i (ru_S (As := [.ref a, .int 0, .ref qa_1, .int 0, .int (nI n)]) (rest := []) hF (mJ5_compress_2 l G ws a N qa_1 n f (fun _ => 0) ch ha hN hn hf) (va_cwS 5 hts (lw_S q419 q420 q71 q421) rfl rfl rfl (by decide +kernel) ⟨lb hR1 rfl, lb hR4 rfl⟩) hW rfl rfl hl.1 rfl (lv_room (Nat.le_of_ble_eq_true rfl)) dJ5_compress_9 ⟨by omega, by omega⟩) hW (fun r_2 u_3 H locs h_4 hW => ?_)
  obtain ⟨rfl, h_4⟩ := h_4
  have hW : pM G (ws ++ [(qa_1, .inl (G.2.2.1 1, n, .inl u_3))]) s _ _ := hW
  refine lv_istore (lv' := [(4, .int (nI n)), (3, .ref qa_1), (0, .ref a), (1, .int 0), (2, .int (nI n))]) hx hb dJ5_compress_12 hl (by decide) rfl (fun ls hl => ?_)
  refine lv_iload hx hb dJ5_compress_14 (lv_at hl 0 rfl) ?_
  refine lv_iload_n hx hb dJ5_compress_16 rfl (lv_at hl 4 rfl) ?_
  refine lv_icmp_eq (tgt := 57) hx hb dJ5_compress_17 (by decide) (fun c_17 => ?_) (fun c_17 => absurd rfl c_17)
  refine lv_aload_n hx hb dJ5_compress_57 rfl (lv_at hl 1 rfl) ?_
  exact re_r hF hRt (Or.inr ⟨_, rfl⟩) hLk hQ (by omega) (by omega) dJ5_compress_58 u_3 (h_4) hW

set_option maxRecDepth 100000 in
set_option maxHeartbeats 4000000 in
theorem mJ3_init_2 (l : Launch) (G : pG) (Z : va_W) (a0 a N n : Nat) (f : Nat → Int32) (ch : Nat → Nat) (ha : (a, .inl (G.2.2.1 2, N, .inl f)) ∈ Z) (hN : N ≤ 65536) (hn : n ≤ N) (hn1 : 1 ≤ n) (hn2 : n ≤ 10) (hf : ∀ j, j < n → f j = nI (ch j) ∧ ch j < 128) : Met l yJ3_init_2 (ws_ yJ3_init_2 cJ3_init_2 6 none) ({ frames := 2, cells := 1, slots := 10, locals := 51 } : Room) (va_Pc [.ref a0, .ref a, .int 0, .int (nI n), .null] (fun U => pW G (Z ++ ((a0, .inr (19, [.null, .int 0, .int 0, .int 0])) :: [])) U)) (va_Qv (fun (u : Nat × (Nat → Int32)) => ∀ j, j < n → u.2 j = nI (ch j)) (fun (u : Nat × (Nat → Int32)) t9 => pW G (Z ++ ((a0, .inr (19, [.ref u.1, .int 0, .int 0, .int 0])) :: [(u.1, .inl (G.2.2.1 1, n, .inl u.2))])) t9) (pA G)) 1 10 (pA G) := by
  refine mw (by decide) (Nat.le_of_ble_eq_true rfl) ?_
  intro pp ee R s m below meth c ls Q hF hRt hLk hnm hR hQ hW hl
  have hx := hF.1
  have hb := hF.2.1
  have hts := hF.2.2.2.2
  have hR1 : R.frames = 2 := by rw [hR]
  have hR2 : R.cells = 1 := by rw [hR]
  have hR3 : R.slots = 10 := by rw [hR]
  have hR4 : R.locals = 51 := by rw [hR]
  have hl : lv_has ls 6 [(0, .ref a0), (1, .ref a), (2, .int 0), (3, .int (nI n)), (4, .null)] := hl
  have hW : pM G (Z ++ ((a0, .inr (19, [.null, .int 0, .int 0, .int 0])) :: [])) s s.heap [] := hW
  refine lv_aload_n hx hb dJ3_init_2_0 rfl (lv_at hl 0 rfl) ?_
  refine W.objInit hx hb hF.2.2.2.1 (hts _ q412) (hts _ q97) (hts _ q98) rfl (by rw [hF.2.2.1]; exact hl.1) rfl dJ3_init_2_1 (lb hR1 rfl) (lb hR4 rfl) ?_
  refine W.eq (g2 := F0 m 4 ls []) rfl ?_
  refine lv_iload_n hx hb dJ3_init_2_4 rfl (lv_at hl 3 rfl) ?_
  refine lv_if_ne (tgt := 27) hx hb dJ3_init_2_5 (by decide) (fun c_5 => ?_) (fun c_5 => absurd c_5 (nI_ne0 (by omega) (by omega)))
  refine gs hF hW hW.2.2.2.2.2.2.2.1 q414 dJ3_init_2_27 ?_
  refine lv_if_eq (tgt := 58) hx hb dJ3_init_2_30 (by decide) (fun c_30 => absurd c_30 (by decide)) (fun c_30 => ?_)
  refine lv_aload_n hx hb dJ3_init_2_33 rfl (lv_at hl 1 rfl) ?_
  refine lv_iload_n hx hb dJ3_init_2_34 rfl (lv_at hl 2 rfl) ?_
  refine lv_iload_n hx hb dJ3_init_2_35 rfl (lv_at hl 3 rfl) ?_
  refine cl_r (ru_S (As := [.ref a, .int 0, .int (nI n)]) (rest := []) hF (mJ5_compress l G (Z ++ ((a0, .inr (19, [.null, .int 0, .int 0, .int 0])) :: [])) a N n f ch (ms_l ha) hN hn hn2 hf) (va_cwS 3 hts (lw_S q416 q417 q71 q418) rfl rfl rfl (by decide +kernel) ⟨lb hR1 rfl, lb hR4 rfl⟩) hW rfl rfl hl.1 rfl (lv_room (Nat.le_of_ble_eq_true rfl)) dJ3_init_2_36 ⟨by omega, by omega⟩) hW (fun u_2 q_1 H locs h_3 hW => ?_)
  have hW := hW.asc
  have hW : pM G (Z ++ ((a0, .inr (19, [.null, .int 0, .int 0, .int 0])) :: [(q_1, .inl (G.2.2.1 1, n, .inl u_2))])) s _ _ := hW
  refine lv_astore (lv' := [(5, .ref q_1), (0, .ref a0), (1, .ref a), (2, .int 0), (3, .int (nI n)), (4, .null)]) hx hb dJ3_init_2_39 hl (by decide) rfl (fun ls hl => ?_)
  refine lv_aload_n hx hb dJ3_init_2_41 rfl (lv_at hl 1 rfl) ?_
  refine lv_aload hx hb dJ3_init_2_42 (lv_at hl 0 rfl) ?_
  refine lv_iload_n hx hb dJ3_init_2_44 rfl (lv_at hl 4 rfl) ?_
  refine cl_i (ru_S (As := [.ref q_1, .int (nI n)]) (rest := [.ref a0]) hF (mJ5_coderFromArrayLen l G (Z ++ ((a0, .inr (19, [.null, .int 0, .int 0, .int 0])) :: [(q_1, .inl (G.2.2.1 1, n, .inl u_2))])) q_1 n u_2 (ms_r (List.mem_of_getElem? (i := 1) rfl)) (by omega)) (va_cwS 2 hts (lw_S q454 q455 q71 q456) rfl rfl rfl (by decide +kernel) ⟨lb hR1 rfl, lb hR4 rfl⟩) hW rfl rfl hl.1 rfl (lv_room (Nat.le_of_ble_eq_true rfl)) dJ3_init_2_45 ⟨by omega, by omega⟩) hW (fun r_4 u_5 H locs h_6 hW => ?_)
  obtain rfl : r_4 = 0 := h_6
  have hW : pM G (Z ++ ((a0, .inr (19, [.null, .int 0, .int 0, .int 0])) :: [(q_1, .inl (G.2.2.1 1, n, .inl u_2))])) s _ _ := hW
  refine pzF (Z) [] ([(q_1, .inl (G.2.2.1 1, n, .inl u_2))]) (Cn := RJ3) (T := TJ3) (N := 4) (ci := 19) hF hnm hW rfl in_J3 tyJ3 tyJ3_ok nmJ3 1 (by decide) q459 rfl rfl rfl (by decide) (by decide) (by decide : 1 < 4) dJ3_init_2_48 (fun H locs hW => ?_)
  have hW : pM G (Z ++ ((a0, .inr (19, [.null, .int 0, .int 0, .int 0])) :: [(q_1, .inl (G.2.2.1 1, n, .inl u_2))])) s _ _ := hW
  refine lv_aload_n hx hb dJ3_init_2_51 rfl (lv_at hl 1 rfl) ?_
  refine lv_aload hx hb dJ3_init_2_52 (lv_at hl 0 rfl) ?_
  refine pzF (Z) [] ([(q_1, .inl (G.2.2.1 1, n, .inl u_2))]) (Cn := RJ3) (T := TJ3) (N := 4) (ci := 19) hF hnm hW rfl in_J3 tyJ3 tyJ3_ok nmJ3 0 (by decide) q458 rfl rfl rfl rfl rfl (by decide : 0 < 4) dJ3_init_2_54 (fun H locs hW => ?_)
  have hW : pM G (Z ++ ((a0, .inr (19, [.ref q_1, .int 0, .int 0, .int 0])) :: [(q_1, .inl (G.2.2.1 1, n, .inl u_2))])) s _ _ := hW
  exact re_v hF hRt hLk hQ (by omega) (by omega) dJ3_init_2_57 (q_1, u_2) (h_3) hW

set_option maxRecDepth 100000 in
set_option maxHeartbeats 4000000 in
theorem mJ3_init (l : Launch) (G : pG) (Z : va_W) (a0 a N n : Nat) (f : Nat → Int32) (ch : Nat → Nat) (ha : (a, .inl (G.2.2.1 2, N, .inl f)) ∈ Z) (hN : N ≤ 65536) (hn : n ≤ N) (hn1 : 1 ≤ n) (hn2 : n ≤ 10) (hf : ∀ j, j < n → f j = nI (ch j) ∧ ch j < 128) : Met l yJ3_init (ws_ yJ3_init cJ3_init 4 none) ({ frames := 3, cells := 1, slots := 10, locals := 76 } : Room) (va_Pc [.ref a0, .ref a, .int 0, .int (nI n)] (fun U => pW G (Z ++ ((a0, .inr (19, [.null, .int 0, .int 0, .int 0])) :: [])) U)) (va_Qv (fun (u : Nat × (Nat → Int32)) => ∀ j, j < n → u.2 j = nI (ch j)) (fun (u : Nat × (Nat → Int32)) t9 => pW G (Z ++ ((a0, .inr (19, [.ref u.1, .int 0, .int 0, .int 0])) :: [(u.1, .inl (G.2.2.1 1, n, .inl u.2))])) t9) (pA G)) 1 10 (pA G) := by
  refine mw (by decide) (Nat.le_of_ble_eq_true rfl) ?_
  intro pp ee R s m below meth c ls Q hF hRt hLk hnm hR hQ hW hl
  have hx := hF.1
  have hb := hF.2.1
  have hts := hF.2.2.2.2
  have hR1 : R.frames = 3 := by rw [hR]
  have hR2 : R.cells = 1 := by rw [hR]
  have hR3 : R.slots = 10 := by rw [hR]
  have hR4 : R.locals = 76 := by rw [hR]
  have hl : lv_has ls 4 [(0, .ref a0), (1, .ref a), (2, .int 0), (3, .int (nI n))] := hl
  have hW : pM G (Z ++ ((a0, .inr (19, [.null, .int 0, .int 0, .int 0])) :: [])) s s.heap [] := hW
  refine lv_aload_n hx hb dJ3_init_0 rfl (lv_at hl 0 rfl) ?_
  refine lv_aload_n hx hb dJ3_init_1 rfl (lv_at hl 1 rfl) ?_
  refine lv_iload_n hx hb dJ3_init_2 rfl (lv_at hl 2 rfl) ?_
  refine lv_iload_n hx hb dJ3_init_3 rfl (lv_at hl 3 rfl) ?_
  refine lv_aload_n hx hb dJ3_init_4 rfl (lv_at hl 1 rfl) ?_
  refine lv_iload_n hx hb dJ3_init_5 rfl (lv_at hl 2 rfl) ?_
  refine lv_iload_n hx hb dJ3_init_6 rfl (lv_at hl 3 rfl) ?_
  refine cl_q (ru_S (As := [.ref a, .int 0, .int (nI n)]) (rest := [.int (nI n), .int 0, .ref a, .ref a0]) hF (mJ3_rangeCheck l G (Z ++ ((a0, .inr (19, [.null, .int 0, .int 0, .int 0])) :: [])) a n N f (ms_l ha) hN hn) (va_cwS 3 hts (lw_S q398 q399 q69 q400) rfl rfl rfl (by decide +kernel) ⟨lb hR1 rfl, lb hR4 rfl⟩) hW rfl rfl hl.1 rfl (lv_room (Nat.le_of_ble_eq_true rfl)) dJ3_init_7 ⟨by omega, by omega⟩) hW (fun r_1 u_2 H locs h_3 hW => ?_)
  obtain rfl : r_1 = none := h_3
  have hW : pM G (Z ++ ((a0, .inr (19, [.null, .int 0, .int 0, .int 0])) :: [])) s _ _ := hW
  refine lv_eqv (y := .null) rfl ?_
  refine cl_v (ru_I (As := [.ref a, .int 0, .int (nI n), .null]) (rest := []) hF (mJ3_init_2 l G Z a0 a N n f ch ha hN hn hn1 hn2 hf) (cwI 4 hts (lw_meth q411) rfl rfl rfl (hts _ q69) (hts _ q409) (hts _ q410) rfl (by decide +kernel) ⟨lb hR1 rfl, lb hR4 rfl⟩) hW rfl rfl hl.1 rfl (lv_room (Nat.le_of_ble_eq_true rfl)) dJ3_init_10 ⟨by omega, by omega⟩) hW (fun u_4 H locs h_5 hW => ?_)
  exact re_v hF hRt hLk hQ (by omega) (by omega) dJ3_init_13 u_4 (h_5) hW
