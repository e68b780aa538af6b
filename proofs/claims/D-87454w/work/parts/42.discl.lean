/-! discloses; copies of texts -/
def disB (wd : Nat → Int32) (a b : Tx) (wn : Nat) : Bool := decide (0 < (solsF wd a b wn a.1.length []).length)
theorem wC1 (k : Nat) : wC true 0 k = min 1 k := by unfold wC; simp

set_option maxRecDepth 100000 in
set_option maxHeartbeats 4000000 in
theorem mX0_discloses_2 (l : Launch) (G : pG) (ad : Nat → Nat) (x : XV) (T : va_W) (v0 to0 fi0 : Nat → Int32) (f1 f2 : Option Nat) (pa pb : Nat) (a b : Tx) (ha9 : HT G T pa a) (hb9 : HT G T pb b) (nW : Nat) (hwd : WdOk (x.2.1 4) nW) (hW60 : nW ≤ 60) (hoka : TxOk nW 8 10 a) (hokb : TxOk nW 8 10 b) (wn : Nat) (hwn : wn < 256) : Met l yX0_discloses_2 (ws_ yX0_discloses_2 cX0_discloses_2 4 (some .boolean)) ({ frames := 21, cells := 0, slots := 0, locals := 1025 } : Room) (va_Pc [.ref (ad 0), .ref pb, .ref pa, .int (nI wn)] (fun U => pW G (HWl G ad (scx x v0 to0 fi0 f1 f2) ++ T) U)) (va_Qi (fun r (u : SC) => (r = 1 ∧ disB (x.2.1 4) a b wn = true) ∨ (r = 0 ∧ disB (x.2.1 4) a b wn = false)) (fun (u : SC) t9 => pW G (HWl G ad (scx x u.1 u.2.1 u.2.2.1 u.2.2.2.1 u.2.2.2.2) ++ T) t9) (pA G)) 0 0 (pA G) := by
  refine mw (by decide) (Nat.le_of_ble_eq_true rfl) ?_
  intro pp ee R s m below meth c ls Q hF hRt hLk hnm hR hQ hW hl
  have hx := hF.1
  have hb := hF.2.1
  have hts := hF.2.2.2.2
  have hR1 : R.frames = 21 := by rw [hR]
  have hR2 : R.cells = 0 := by rw [hR]
  have hR3 : R.slots = 0 := by rw [hR]
  have hR4 : R.locals = 1025 := by rw [hR]
  have hl : lv_has ls 4 [(0, .ref (ad 0)), (1, .ref pb), (2, .ref pa), (3, .int (nI wn))] := hl
  have hW : pM G (HWl G ad (scx x v0 to0 fi0 f1 f2) ++ T) s s.heap [] := hW
  refine lv_aload_n hx hb dX0_discloses_2_0 rfl (lv_at hl 0 rfl) ?_
  refine gH0_finder hF hW q262 dX0_discloses_2_1 ?_
  refine lv_aload_n hx hb dX0_discloses_2_4 rfl (lv_at hl 2 rfl) ?_
  refine lv_iload_n hx hb dX0_discloses_2_5 rfl (lv_at hl 3 rfl) ?_
  refine lv_aload_n hx hb dX0_discloses_2_6 rfl (lv_at hl 1 rfl) ?_
  refine lv_iconst (v := 1) hx hb dX0_discloses_2_7 (by decide) ?_
  refine cl_i (ru_V (As := [.ref pa, .int (nI wn), .ref pb, .int 1]) (rest := []) hF (mX3_find_true l G ad x T v0 to0 fi0 f1 f2 pa pb a b ha9 hb9 nW hwd hW60 hoka hokb wn hwn) (cwV 4 hts (lw_V q750 q751 q752 q65 q753) rfl rfl rfl (by decide +kernel) ⟨lb hR1 rfl, lb hR4 rfl⟩) hW (List.mem_of_getElem? (i := 5) rfl) (ci := 3) rfl rfl rfl hl.1 rfl (lv_room (Nat.le_of_ble_eq_true rfl)) dX0_discloses_2_8 ⟨by omega, by omega⟩) hW (fun r_ u_ H locs h_ hW => ?_)
  obtain ⟨r1, r2⟩ := h_
  rw [wC1] at r1
  subst r1
  have hW : pM G (HWl G ad (scx x u_.1 u_.2.1 u_.2.2.1 u_.2.2.2.1 u_.2.2.2.2) ++ T) s _ _ := hW
  refine lv_if_le (tgt := 18) hx hb dX0_discloses_2_11 (by decide) (fun c_11 => ?_) (fun c_11 => ?_)
  · have hz : ¬ 0 < (solsF (x.2.1 4) a b wn a.1.length []).length := fun z => by have := le_le (b := 0) c_11 (by omega) (by decide); omega
    refine lv_iconst (v := 0) hx hb dX0_discloses_2_18 (by decide) ?_
    exact re_z hF hRt hLk hQ (by omega) (by omega) (by decide) dX0_discloses_2_19 u_ (Or.inr ⟨rfl, decide_eq_false hz⟩) hW
  · have hz : 0 < (solsF (x.2.1 4) a b wn a.1.length []).length := by have : ¬ min 1 (solsF (x.2.1 4) a b wn a.1.length []).length = 0 := (fun z => c_11 (by rw [z]; decide)); omega
    refine lv_iconst (v := 1) hx hb dX0_discloses_2_14 (by decide) ?_
    refine lv_goto (tgt := 19) hx hb dX0_discloses_2_15 (by decide) ?_
    exact re_z hF hRt hLk hQ (by omega) (by omega) (by decide) dX0_discloses_2_19 u_ (Or.inl ⟨rfl, decide_eq_true hz⟩) hW

set_option maxRecDepth 100000 in
set_option maxHeartbeats 4000000 in
theorem mX0_discloses (l : Launch) (G : pG) (ad : Nat → Nat) (x : XV) (T : va_W) (v0 to0 fi0 : Nat → Int32) (f1 f2 : Option Nat) (pa pb : Nat) (a b : Tx) (ha9 : HT G T pa a) (hb9 : HT G T pb b) (nW : Nat) (hwd : WdOk (x.2.1 4) nW) (hW60 : nW ≤ 60) (hoka : TxOk nW 8 10 a) (hokb : TxOk nW 8 10 b) : Met l yX0_discloses (ws_ yX0_discloses cX0_discloses 3 (some .boolean)) ({ frames := 22, cells := 0, slots := 0, locals := 1048 } : Room) (va_Pc [.ref (ad 0), .ref pb, .ref pa] (fun U => pW G (HWl G ad (scx x v0 to0 fi0 f1 f2) ++ T) U)) (va_Qi (fun r (u : SC) => (r = 1 ∧ disB (x.2.1 4) a b (2 ^ a.1.length - 1) = true) ∨ (r = 0 ∧ disB (x.2.1 4) a b (2 ^ a.1.length - 1) = false)) (fun (u : SC) t9 => pW G (HWl G ad (scx x u.1 u.2.1 u.2.2.1 u.2.2.2.1 u.2.2.2.2) ++ T) t9) (pA G)) 0 0 (pA G) := by
  refine mw (by decide) (Nat.le_of_ble_eq_true rfl) ?_
  intro pp ee R s m below meth c ls Q hF hRt hLk hnm hR hQ hW hl
  have hx := hF.1
  have hb := hF.2.1
  have hts := hF.2.2.2.2
  have hR1 : R.frames = 22 := by rw [hR]
  have hR2 : R.cells = 0 := by rw [hR]
  have hR3 : R.slots = 0 := by rw [hR]
  have hR4 : R.locals = 1048 := by rw [hR]
  have hl : lv_has ls 3 [(0, .ref (ad 0)), (1, .ref pb), (2, .ref pa)] := hl
  have hW : pM G (HWl G ad (scx x v0 to0 fi0 f1 f2) ++ T) s s.heap [] := hW
  refine lv_aload_n hx hb dX0_discloses_0 rfl (lv_at hl 0 rfl) ?_
  refine lv_aload_n hx hb dX0_discloses_1 rfl (lv_at hl 1 rfl) ?_
  refine lv_aload_n hx hb dX0_discloses_2 rfl (lv_at hl 2 rfl) ?_
  refine lv_aload_n hx hb dX0_discloses_3 rfl (lv_at hl 2 rfl) ?_
  refine cl_i (ru_S (As := [.ref pa]) (rest := [.ref pa, .ref pb, .ref (ad 0)]) hF (mX0_all l G (HWl G ad (scx x v0 to0 fi0 f1 f2) ++ T) pa a (ha9.mono (fun q h => ms_r h)) hoka.2.2.1) (va_cwS 1 hts (lw_S q743 q744 q59 q745) rfl rfl rfl (by decide +kernel) ⟨lb hR1 rfl, lb hR4 rfl⟩) hW rfl rfl hl.1 rfl (lv_room (Nat.le_of_ble_eq_true rfl)) dX0_discloses_4 ⟨by omega, by omega⟩) hW (fun r_ u_ H locs h_ hW => ?_)
  obtain rfl : r_ = nI (2 ^ a.1.length - 1) := h_
  have hW : pM G (HWl G ad (scx x v0 to0 fi0 f1 f2) ++ T) s _ _ := hW
  have hpow : 2 ^ a.1.length ≤ 2 ^ 8 := Nat.pow_le_pow_right (by omega) hoka.2.2.1
  refine cl_i (ru_V (As := [.ref pb, .ref pa, .int (nI (2 ^ a.1.length - 1))]) (rest := []) hF (mX0_discloses_2 l G ad x T v0 to0 fi0 f1 f2 pa pb a b ha9 hb9 nW hwd hW60 hoka hokb (2 ^ a.1.length - 1) (by omega)) (cwV 3 hts (lw_V q746 q748 qs18 q59 q749) rfl rfl rfl (by decide +kernel) ⟨lb hR1 rfl, lb hR4 rfl⟩) hW (List.mem_of_getElem? (i := 0) rfl) (ci := 0) rfl rfl rfl hl.1 rfl (lv_room (Nat.le_of_ble_eq_true rfl)) dX0_discloses_7 ⟨by omega, by omega⟩) hW (fun r_ u_ H locs h_ hW => ?_)
  have hW : pM G (HWl G ad (scx x u_.1 u_.2.1 u_.2.2.1 u_.2.2.2.1 u_.2.2.2.2) ++ T) s _ _ := hW
  rcases h_ with ⟨rfl, hd⟩ | ⟨rfl, hd⟩
  · exact re_z hF hRt hLk hQ (by omega) (by omega) (by decide) dX0_discloses_10 u_ (Or.inl ⟨rfl, hd⟩) hW
  · exact re_z hF hRt hLk hQ (by omega) (by omega) (by decide) dX0_discloses_10 u_ (Or.inr ⟨rfl, hd⟩) hW
