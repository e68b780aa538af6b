/-! the model: small methods, tokens -/
def encN (w : List Nat) : Nat := w.foldl (fun a c => 32 * a + (c - 96)) 0
def encL (w : List Nat) : Int64 := lN (encN w)
def msort (k : Nat) : Nat := if k = 0 then 1 else if k = 1 then 0 else if k = 2 then 2 else 3
def msign (k : Nat) : Int32 := if k = 58 then 58 else if k = 59 then 59 else 0
/-- the model's own reading fields changed -/
def mdx (x : XV) (v : Nat → Int32) (lt : Int64) : XV := xl (xi (xi (xi (xi (xi x 12 (v 12)) 13 (v 13)) 14 (v 14)) 15 (v 15)) 16 (v 16)) 0 lt
abbrev MS : Type := (Nat → Int32) × Int64

set_option maxRecDepth 100000 in
set_option maxHeartbeats 4000000 in
theorem mX4_in (l : Launch) (G : pG) (ws : va_W) (a0 a1 a2 : Int32) : Met l yX4_in (ws_ yX4_in cX4_in 3 (some .boolean)) ({ frames := 0, cells := 0, slots := 0, locals := 0 } : Room) (va_Pc [.int a0, .int a1, .int a2] (fun U => pW G (ws) U)) (va_Qi (fun r (_ : Unit) => (r = 1 ∧ (a1 ≤ a0 ∧ a0 ≤ a2)) ∨ (r = 0 ∧ ¬ (a1 ≤ a0 ∧ a0 ≤ a2))) (fun (u : Unit) t9 => pW G (ws) t9) (pA G)) 0 0 (pA G) := by
  refine mw (by decide) (Nat.le_of_ble_eq_true rfl) ?_
  intro pp ee R s m below meth c ls Q hF hRt hLk hnm hR hQ hW hl
  have hx := hF.1
  have hb := hF.2.1
  have hts := hF.2.2.2.2
  have hR1 : R.frames = 0 := by rw [hR]
  have hR2 : R.cells = 0 := by rw [hR]
  have hR3 : R.slots = 0 := by rw [hR]
  have hR4 : R.locals = 0 := by rw [hR]
  have hl : lv_has ls 3 [(0, .int a0), (1, .int a1), (2, .int a2)] := hl
  have hW : pM G (ws) s s.heap [] := hW
  refine lv_iload_n hx hb dX4_in_0 rfl (lv_at hl 0 rfl) ?_
  refine lv_iload_n hx hb dX4_in_1 rfl (lv_at hl 1 rfl) ?_
  refine lv_icmp_lt (tgt := 14) hx hb dX4_in_2 (by decide) (fun c_2 => ?_) (fun c_2 => ?_)
  · refine lv_iconst (v := 0) hx hb dX4_in_14 (by decide) ?_
    exact re_z hF hRt hLk hQ (by omega) (by omega) (by decide) dX4_in_15 () (Or.inr ⟨rfl, fun z => absurd z.1 (Int32.not_le.mpr c_2)⟩) hW
  · refine lv_iload_n hx hb dX4_in_5 rfl (lv_at hl 0 rfl) ?_
    refine lv_iload_n hx hb dX4_in_6 rfl (lv_at hl 2 rfl) ?_
    refine lv_icmp_gt (tgt := 14) hx hb dX4_in_7 (by decide) (fun c_7 => ?_) (fun c_7 => ?_)
    · refine lv_iconst (v := 0) hx hb dX4_in_14 (by decide) ?_
      exact re_z hF hRt hLk hQ (by omega) (by omega) (by decide) dX4_in_15 () (Or.inr ⟨rfl, fun z => absurd z.2 (Int32.not_le.mpr c_7)⟩) hW
    · refine lv_iconst (v := 1) hx hb dX4_in_10 (by decide) ?_
      refine lv_goto (tgt := 15) hx hb dX4_in_11 (by decide) ?_
      exact re_z hF hRt hLk hQ (by omega) (by omega) (by decide) dX4_in_15 () (Or.inl ⟨rfl, Int32.not_lt.mp c_2, Int32.not_lt.mp c_7⟩) hW

set_option maxRecDepth 100000 in
set_option maxHeartbeats 4000000 in
theorem mX4_refused (l : Launch) (G : pG) (ad : Nat → Nat) (x : XV) (T : va_W) (a0 : Int32) : Met l yX4_refused (ws_ yX4_refused cX4_refused 2 (some .int)) ({ frames := 0, cells := 0, slots := 0, locals := 0 } : Room) (va_Pc [.ref (ad 0), .int a0] (fun U => pW G (MWl G ad x ++ T) U)) (va_Qi (fun r u => r = -1 ∧ u = xi (xi x 1 a0) 2 (-1)) (fun (u : XV) t9 => pW G (MWl G ad u ++ T) t9) (pA G)) 0 0 (pA G) := by
  refine mw (by decide) (Nat.le_of_ble_eq_true rfl) ?_
  intro pp ee R s m below meth c ls Q hF hRt hLk hnm hR hQ hW hl
  have hx := hF.1
  have hb := hF.2.1
  have hts := hF.2.2.2.2
  have hR1 : R.frames = 0 := by rw [hR]
  have hR2 : R.cells = 0 := by rw [hR]
  have hR3 : R.slots = 0 := by rw [hR]
  have hR4 : R.locals = 0 := by rw [hR]
  have hl : lv_has ls 2 [(0, .ref (ad 0)), (1, .int a0)] := hl
  have hW : pM G (MWl G ad x ++ T) s s.heap [] := hW
  refine lv_aload_n hx hb dX4_refused_0 rfl (lv_at hl 0 rfl) ?_
  refine lv_iload_n hx hb dX4_refused_1 rfl (lv_at hl 1 rfl) ?_
  refine pM0_trouble hF hW q1096 dX4_refused_2 (fun H locs hW => ?_)
  have hW : pM G (MWl G ad (xi x 1 a0) ++ T) s _ _ := hW
  refine lv_aload_n hx hb dX4_refused_5 rfl (lv_at hl 0 rfl) ?_
  refine lv_iconst (v := (-1)) hx hb dX4_refused_6 (by decide) ?_
  refine pM0_where hF hW q1097 dX4_refused_7 (fun H locs hW => ?_)
  have hW : pM G (MWl G ad (xi (xi x 1 a0) 2 (-1)) ++ T) s _ _ := hW
  refine lv_iconst (v := (-1)) hx hb dX4_refused_10 (by decide) ?_
  exact re_i hF hRt hLk hQ (by omega) (by omega) dX4_refused_11 (xi (xi x 1 a0) 2 (-1)) (⟨rfl, rfl⟩) hW

set_option maxRecDepth 100000 in
set_option maxHeartbeats 4000000 in
theorem mX4_denied (l : Launch) (G : pG) (ad : Nat → Nat) (x : XV) (T : va_W) (a0 : Int32) : Met l yX4_denied (ws_ yX4_denied cX4_denied 2 (some .boolean)) ({ frames := 0, cells := 0, slots := 0, locals := 0 } : Room) (va_Pc [.ref (ad 0), .int a0] (fun U => pW G (MWl G ad x ++ T) U)) (va_Qi (fun r u => r = 0 ∧ u = xi (xi x 1 a0) 2 (-1)) (fun (u : XV) t9 => pW G (MWl G ad u ++ T) t9) (pA G)) 0 0 (pA G) := by
  refine mw (by decide) (Nat.le_of_ble_eq_true rfl) ?_
  intro pp ee R s m below meth c ls Q hF hRt hLk hnm hR hQ hW hl
  have hx := hF.1
  have hb := hF.2.1
  have hts := hF.2.2.2.2
  have hR1 : R.frames = 0 := by rw [hR]
  have hR2 : R.cells = 0 := by rw [hR]
  have hR3 : R.slots = 0 := by rw [hR]
  have hR4 : R.locals = 0 := by rw [hR]
  have hl : lv_has ls 2 [(0, .ref (ad 0)), (1, .int a0)] := hl
  have hW : pM G (MWl G ad x ++ T) s s.heap [] := hW
  refine lv_aload_n hx hb dX4_denied_0 rfl (lv_at hl 0 rfl) ?_
  refine lv_iload_n hx hb dX4_denied_1 rfl (lv_at hl 1 rfl) ?_
  refine pM0_trouble hF hW q1096 dX4_denied_2 (fun H locs hW => ?_)
  have hW : pM G (MWl G ad (xi x 1 a0) ++ T) s _ _ := hW
  refine lv_aload_n hx hb dX4_denied_5 rfl (lv_at hl 0 rfl) ?_
  refine lv_iconst (v := (-1)) hx hb dX4_denied_6 (by decide) ?_
  refine pM0_where hF hW q1097 dX4_denied_7 (fun H locs hW => ?_)
  have hW : pM G (MWl G ad (xi (xi x 1 a0) 2 (-1)) ++ T) s _ _ := hW
  refine lv_iconst (v := 0) hx hb dX4_denied_10 (by decide) ?_
  exact re_z hF hRt hLk hQ (by omega) (by omega) (by decide) dX4_denied_11 (xi (xi x 1 a0) 2 (-1)) (⟨rfl, rfl⟩) hW

set_option maxRecDepth 100000 in
set_option maxHeartbeats 4000000 in
theorem mX4_done (l : Launch) (G : pG) (ad : Nat → Nat) (x : XV) (T : va_W) (a0 : Int32) : Met l yX4_done (ws_ yX4_done cX4_done 2 (some .int)) ({ frames := 0, cells := 0, slots := 0, locals := 0 } : Room) (va_Pc [.ref (ad 0), .int a0] (fun U => pW G (MWl G ad x ++ T) U)) (va_Qi (fun r u => r = a0 ∧ u = xi (xi x 1 0) 2 (-1)) (fun (u : XV) t9 => pW G (MWl G ad u ++ T) t9) (pA G)) 0 0 (pA G) := by
  refine mw (by decide) (Nat.le_of_ble_eq_true rfl) ?_
  intro pp ee R s m below meth c ls Q hF hRt hLk hnm hR hQ hW hl
  have hx := hF.1
  have hb := hF.2.1
  have hts := hF.2.2.2.2
  have hR1 : R.frames = 0 := by rw [hR]
  have hR2 : R.cells = 0 := by rw [hR]
  have hR3 : R.slots = 0 := by rw [hR]
  have hR4 : R.locals = 0 := by rw [hR]
  have hl : lv_has ls 2 [(0, .ref (ad 0)), (1, .int a0)] := hl
  have hW : pM G (MWl G ad x ++ T) s s.heap [] := hW
  refine lv_aload_n hx hb dX4_done_0 rfl (lv_at hl 0 rfl) ?_
  refine lv_iconst (v := 0) hx hb dX4_done_1 (by decide) ?_
  refine pM0_trouble hF hW q1096 dX4_done_2 (fun H locs hW => ?_)
  have hW : pM G (MWl G ad (xi x 1 0) ++ T) s _ _ := hW
  refine lv_aload_n hx hb dX4_done_5 rfl (lv_at hl 0 rfl) ?_
  refine lv_iconst (v := (-1)) hx hb dX4_done_6 (by decide) ?_
  refine pM0_where hF hW q1097 dX4_done_7 (fun H locs hW => ?_)
  have hW : pM G (MWl G ad (xi (xi x 1 0) 2 (-1)) ++ T) s _ _ := hW
  refine lv_iload_n hx hb dX4_done_10 rfl (lv_at hl 1 rfl) ?_
  exact re_i hF hRt hLk hQ (by omega) (by omega) dX4_done_11 (xi (xi x 1 0) 2 (-1)) (⟨rfl, rfl⟩) hW

set_option maxRecDepth 100000 in
set_option maxHeartbeats 4000000 in
theorem mX4_granted (l : Launch) (G : pG) (ad : Nat → Nat) (x : XV) (T : va_W) : Met l yX4_granted (ws_ yX4_granted cX4_granted 1 (some .boolean)) ({ frames := 0, cells := 0, slots := 0, locals := 0 } : Room) (va_Pc [.ref (ad 0)] (fun U => pW G (MWl G ad x ++ T) U)) (va_Qi (fun r u => r = 1 ∧ u = xi (xi x 1 0) 2 (-1)) (fun (u : XV) t9 => pW G (MWl G ad u ++ T) t9) (pA G)) 0 0 (pA G) := by
  refine mw (by decide) (Nat.le_of_ble_eq_true rfl) ?_
  intro pp ee R s m below meth c ls Q hF hRt hLk hnm hR hQ hW hl
  have hx := hF.1
  have hb := hF.2.1
  have hts := hF.2.2.2.2
  have hR1 : R.frames = 0 := by rw [hR]
  have hR2 : R.cells = 0 := by rw [hR]
  have hR3 : R.slots = 0 := by rw [hR]
  have hR4 : R.locals = 0 := by rw [hR]
  have hl : lv_has ls 1 [(0, .ref (ad 0))] := hl
  have hW : pM G (MWl G ad x ++ T) s s.heap [] := hW
  refine lv_aload_n hx hb dX4_granted_0 rfl (lv_at hl 0 rfl) ?_
  refine lv_iconst (v := 0) hx hb dX4_granted_1 (by decide) ?_
  refine pM0_trouble hF hW q1096 dX4_granted_2 (fun H locs hW => ?_)
  have hW : pM G (MWl G ad (xi x 1 0) ++ T) s _ _ := hW
  refine lv_aload_n hx hb dX4_granted_5 rfl (lv_at hl 0 rfl) ?_
  refine lv_iconst (v := (-1)) hx hb dX4_granted_6 (by decide) ?_
  refine pM0_where hF hW q1097 dX4_granted_7 (fun H locs hW => ?_)
  have hW : pM G (MWl G ad (xi (xi x 1 0) 2 (-1)) ++ T) s _ _ := hW
  refine lv_iconst (v := 1) hx hb dX4_granted_10 (by decide) ?_
  exact re_z hF hRt hLk hQ (by omega) (by omega) (by decide) dX4_granted_11 (xi (xi x 1 0) 2 (-1)) (⟨rfl, rfl⟩) hW

set_option maxRecDepth 100000 in
set_option maxHeartbeats 4000000 in
theorem mX4_isTaped (l : Launch) (G : pG) (ad : Nat → Nat) (x : XV) (T : va_W) (a0 : Int32) : Met l yX4_isTaped (ws_ yX4_isTaped cX4_isTaped 2 (some .boolean)) ({ frames := 0, cells := 0, slots := 0, locals := 0 } : Room) (va_Pc [.ref (ad 0), .int a0] (fun U => pW G (MWl G ad x ++ T) U)) (va_Qi (fun r (_ : Unit) => (r = 1 ∧ (0 ≤ a0 ∧ a0 ≤ x.1 11)) ∨ (r = 0 ∧ ¬ (0 ≤ a0 ∧ a0 ≤ x.1 11))) (fun (u : Unit) t9 => pW G (MWl G ad x ++ T) t9) (pA G)) 0 0 (pA G) := by
  refine mw (by decide) (Nat.le_of_ble_eq_true rfl) ?_
  intro pp ee R s m below meth c ls Q hF hRt hLk hnm hR hQ hW hl
  have hx := hF.1
  have hb := hF.2.1
  have hts := hF.2.2.2.2
  have hR1 : R.frames = 0 := by rw [hR]
  have hR2 : R.cells = 0 := by rw [hR]
  have hR3 : R.slots = 0 := by rw [hR]
  have hR4 : R.locals = 0 := by rw [hR]
  have hl : lv_has ls 2 [(0, .ref (ad 0)), (1, .int a0)] := hl
  have hW : pM G (MWl G ad x ++ T) s s.heap [] := hW
  refine lv_iload_n hx hb dX4_isTaped_0 rfl (lv_at hl 1 rfl) ?_
  refine lv_if_lt (tgt := 16) hx hb dX4_isTaped_1 (by decide) (fun c_1 => ?_) (fun c_1 => ?_)
  · refine lv_iconst (v := 0) hx hb dX4_isTaped_16 (by decide) ?_
    exact re_z hF hRt hLk hQ (by omega) (by omega) (by decide) dX4_isTaped_17 () (Or.inr ⟨rfl, fun z => absurd z.1 (Int32.not_le.mpr c_1)⟩) hW
  · refine lv_iload_n hx hb dX4_isTaped_4 rfl (lv_at hl 1 rfl) ?_
    refine lv_aload_n hx hb dX4_isTaped_5 rfl (lv_at hl 0 rfl) ?_
    refine gM0_taped hF hW q1127 (v := x.1 11) (rfl) dX4_isTaped_6 ?_
    refine lv_icmp_gt (tgt := 16) hx hb dX4_isTaped_9 (by decide) (fun c_9 => ?_) (fun c_9 => ?_)
    · refine lv_iconst (v := 0) hx hb dX4_isTaped_16 (by decide) ?_
      exact re_z hF hRt hLk hQ (by omega) (by omega) (by decide) dX4_isTaped_17 () (Or.inr ⟨rfl, fun z => absurd z.2 (Int32.not_le.mpr c_9)⟩) hW
    · refine lv_iconst (v := 1) hx hb dX4_isTaped_12 (by decide) ?_
      refine lv_goto (tgt := 17) hx hb dX4_isTaped_13 (by decide) ?_
      exact re_z hF hRt hLk hQ (by omega) (by omega) (by decide) dX4_isTaped_17 () (Or.inl ⟨rfl, Int32.not_lt.mp c_1, Int32.not_lt.mp c_9⟩) hW

set_option maxRecDepth 100000 in
set_option maxHeartbeats 4000000 in
theorem mX4_isWord (l : Launch) (G : pG) (ad : Nat → Nat) (x : XV) (T : va_W) (a0 : Int32) : Met l yX4_isWord (ws_ yX4_isWord cX4_isWord 2 (some .boolean)) ({ frames := 0, cells := 0, slots := 0, locals := 0 } : Room) (va_Pc [.ref (ad 0), .int a0] (fun U => pW G (MWl G ad x ++ T) U)) (va_Qi (fun r (_ : Unit) => (r = 1 ∧ (0 ≤ a0 ∧ a0 < x.1 4)) ∨ (r = 0 ∧ ¬ (0 ≤ a0 ∧ a0 < x.1 4))) (fun (u : Unit) t9 => pW G (MWl G ad x ++ T) t9) (pA G)) 0 0 (pA G) := by
  refine mw (by decide) (Nat.le_of_ble_eq_true rfl) ?_
  intro pp ee R s m below meth c ls Q hF hRt hLk hnm hR hQ hW hl
  have hx := hF.1
  have hb := hF.2.1
  have hts := hF.2.2.2.2
  have hR1 : R.frames = 0 := by rw [hR]
  have hR2 : R.cells = 0 := by rw [hR]
  have hR3 : R.slots = 0 := by rw [hR]
  have hR4 : R.locals = 0 := by rw [hR]
  have hl : lv_has ls 2 [(0, .ref (ad 0)), (1, .int a0)] := hl
  have hW : pM G (MWl G ad x ++ T) s s.heap [] := hW
  refine lv_iload_n hx hb dX4_isWord_0 rfl (lv_at hl 1 rfl) ?_
  refine lv_if_lt (tgt := 16) hx hb dX4_isWord_1 (by decide) (fun c_1 => ?_) (fun c_1 => ?_)
  · refine lv_iconst (v := 0) hx hb dX4_isWord_16 (by decide) ?_
    exact re_z hF hRt hLk hQ (by omega) (by omega) (by decide) dX4_isWord_17 () (Or.inr ⟨rfl, fun z => absurd z.1 (Int32.not_le.mpr c_1)⟩) hW
  · refine lv_iload_n hx hb dX4_isWord_4 rfl (lv_at hl 1 rfl) ?_
    refine lv_aload_n hx hb dX4_isWord_5 rfl (lv_at hl 0 rfl) ?_
    refine gM0_words hF hW q1099 (v := x.1 4) (rfl) dX4_isWord_6 ?_
    refine lv_icmp_ge (tgt := 16) hx hb dX4_isWord_9 (by decide) (fun c_9 => ?_) (fun c_9 => ?_)
    · refine lv_iconst (v := 0) hx hb dX4_isWord_16 (by decide) ?_
      exact re_z hF hRt hLk hQ (by omega) (by omega) (by decide) dX4_isWord_17 () (Or.inr ⟨rfl, fun z => absurd z.2 (Int32.not_lt.mpr c_9)⟩) hW
    · refine lv_iconst (v := 1) hx hb dX4_isWord_12 (by decide) ?_
      refine lv_goto (tgt := 17) hx hb dX4_isWord_13 (by decide) ?_
      exact re_z hF hRt hLk hQ (by omega) (by omega) (by decide) dX4_isWord_17 () (Or.inl ⟨rfl, Int32.not_lt.mp c_1, Int32.not_le.mp c_9⟩) hW

set_option maxRecDepth 100000 in
set_option maxHeartbeats 4000000 in
theorem mX4_isFile (l : Launch) (G : pG) (ad : Nat → Nat) (x : XV) (T : va_W) (a0 : Int32) : Met l yX4_isFile (ws_ yX4_isFile cX4_isFile 2 (some .boolean)) ({ frames := 0, cells := 0, slots := 0, locals := 0 } : Room) (va_Pc [.ref (ad 0), .int a0] (fun U => pW G (MWl G ad x ++ T) U)) (va_Qi (fun r (_ : Unit) => (r = 1 ∧ (0 ≤ a0 ∧ a0 < x.1 6)) ∨ (r = 0 ∧ ¬ (0 ≤ a0 ∧ a0 < x.1 6))) (fun (u : Unit) t9 => pW G (MWl G ad x ++ T) t9) (pA G)) 0 0 (pA G) := by
  refine mw (by decide) (Nat.le_of_ble_eq_true rfl) ?_
  intro pp ee R s m below meth c ls Q hF hRt hLk hnm hR hQ hW hl
  have hx := hF.1
  have hb := hF.2.1
  have hts := hF.2.2.2.2
  have hR1 : R.frames = 0 := by rw [hR]
  have hR2 : R.cells = 0 := by rw [hR]
  have hR3 : R.slots = 0 := by rw [hR]
  have hR4 : R.locals = 0 := by rw [hR]
  have hl : lv_has ls 2 [(0, .ref (ad 0)), (1, .int a0)] := hl
  have hW : pM G (MWl G ad x ++ T) s s.heap [] := hW
  refine lv_iload_n hx hb dX4_isFile_0 rfl (lv_at hl 1 rfl) ?_
  refine lv_if_lt (tgt := 16) hx hb dX4_isFile_1 (by decide) (fun c_1 => ?_) (fun c_1 => ?_)
  · refine lv_iconst (v := 0) hx hb dX4_isFile_16 (by decide) ?_
    exact re_z hF hRt hLk hQ (by omega) (by omega) (by decide) dX4_isFile_17 () (Or.inr ⟨rfl, fun z => absurd z.1 (Int32.not_le.mpr c_1)⟩) hW
  · refine lv_iload_n hx hb dX4_isFile_4 rfl (lv_at hl 1 rfl) ?_
    refine lv_aload_n hx hb dX4_isFile_5 rfl (lv_at hl 0 rfl) ?_
    refine gM0_files hF hW q1101 (v := x.1 6) (rfl) dX4_isFile_6 ?_
    refine lv_icmp_ge (tgt := 16) hx hb dX4_isFile_9 (by decide) (fun c_9 => ?_) (fun c_9 => ?_)
    · refine lv_iconst (v := 0) hx hb dX4_isFile_16 (by decide) ?_
      exact re_z hF hRt hLk hQ (by omega) (by omega) (by decide) dX4_isFile_17 () (Or.inr ⟨rfl, fun z => absurd z.2 (Int32.not_lt.mpr c_9)⟩) hW
    · refine lv_iconst (v := 1) hx hb dX4_isFile_12 (by decide) ?_
      refine lv_goto (tgt := 17) hx hb dX4_isFile_13 (by decide) ?_
      exact re_z hF hRt hLk hQ (by omega) (by omega) (by decide) dX4_isFile_17 () (Or.inl ⟨rfl, Int32.not_lt.mp c_1, Int32.not_le.mp c_9⟩) hW

set_option maxRecDepth 100000 in
set_option maxHeartbeats 4000000 in
theorem mX4_isClaim (l : Launch) (G : pG) (ad : Nat → Nat) (x : XV) (T : va_W) (a0 : Int32) : Met l yX4_isClaim (ws_ yX4_isClaim cX4_isClaim 2 (some .boolean)) ({ frames := 0, cells := 0, slots := 0, locals := 0 } : Room) (va_Pc [.ref (ad 0), .int a0] (fun U => pW G (MWl G ad x ++ T) U)) (va_Qi (fun r (_ : Unit) => (r = 1 ∧ (0 ≤ a0 ∧ a0 < x.1 7)) ∨ (r = 0 ∧ ¬ (0 ≤ a0 ∧ a0 < x.1 7))) (fun (u : Unit) t9 => pW G (MWl G ad x ++ T) t9) (pA G)) 0 0 (pA G) := by
  refine mw (by decide) (Nat.le_of_ble_eq_true rfl) ?_
  intro pp ee R s m below meth c ls Q hF hRt hLk hnm hR hQ hW hl
  have hx := hF.1
  have hb := hF.2.1
  have hts := hF.2.2.2.2
  have hR1 : R.frames = 0 := by rw [hR]
  have hR2 : R.cells = 0 := by rw [hR]
  have hR3 : R.slots = 0 := by rw [hR]
  have hR4 : R.locals = 0 := by rw [hR]
  have hl : lv_has ls 2 [(0, .ref (ad 0)), (1, .int a0)] := hl
  have hW : pM G (MWl G ad x ++ T) s s.heap [] := hW
  refine lv_iload_n hx hb dX4_isClaim_0 rfl (lv_at hl 1 rfl) ?_
  refine lv_if_lt (tgt := 16) hx hb dX4_isClaim_1 (by decide) (fun c_1 => ?_) (fun c_1 => ?_)
  · refine lv_iconst (v := 0) hx hb dX4_isClaim_16 (by decide) ?_
    exact re_z hF hRt hLk hQ (by omega) (by omega) (by decide) dX4_isClaim_17 () (Or.inr ⟨rfl, fun z => absurd z.1 (Int32.not_le.mpr c_1)⟩) hW
  · refine lv_iload_n hx hb dX4_isClaim_4 rfl (lv_at hl 1 rfl) ?_
    refine lv_aload_n hx hb dX4_isClaim_5 rfl (lv_at hl 0 rfl) ?_
    refine gM0_claims hF hW q1102 (v := x.1 7) (rfl) dX4_isClaim_6 ?_
    refine lv_icmp_ge (tgt := 16) hx hb dX4_isClaim_9 (by decide) (fun c_9 => ?_) (fun c_9 => ?_)
    · refine lv_iconst (v := 0) hx hb dX4_isClaim_16 (by decide) ?_
      exact re_z hF hRt hLk hQ (by omega) (by omega) (by decide) dX4_isClaim_17 () (Or.inr ⟨rfl, fun z => absurd z.2 (Int32.not_lt.mpr c_9)⟩) hW
    · refine lv_iconst (v := 1) hx hb dX4_isClaim_12 (by decide) ?_
      refine lv_goto (tgt := 17) hx hb dX4_isClaim_13 (by decide) ?_
      exact re_z hF hRt hLk hQ (by omega) (by omega) (by decide) dX4_isClaim_17 () (Or.inl ⟨rfl, Int32.not_lt.mp c_1, Int32.not_le.mp c_9⟩) hW

set_option maxRecDepth 100000 in
set_option maxHeartbeats 4000000 in
theorem mX4_stop (l : Launch) (G : pG) (ad : Nat → Nat) (x : XV) (T : va_W) (a0 a1 : Int32) : Met l yX4_stop (ws_ yX4_stop cX4_stop 3 (some (.object "PatentHallModel$Stop"))) ({ frames := 0, cells := 0, slots := 0, locals := 0 } : Room) (va_Pc [.ref (ad 0), .int a0, .int a1] (fun U => pW G (MWl G ad x ++ T) U)) (va_Qq (fun r u => r = some (ad 20) ∧ u = xi (xi x 21 a0) 22 a1) (fun (u : XV) t9 => pW G (MWl G ad u ++ T) t9) (pA G)) 0 0 (pA G) := by
  refine mw (by decide) (Nat.le_of_ble_eq_true rfl) ?_
  intro pp ee R s m below meth c ls Q hF hRt hLk hnm hR hQ hW hl
  have hx := hF.1
  have hb := hF.2.1
  have hts := hF.2.2.2.2
  have hR1 : R.frames = 0 := by rw [hR]
  have hR2 : R.cells = 0 := by rw [hR]
  have hR3 : R.slots = 0 := by rw [hR]
  have hR4 : R.locals = 0 := by rw [hR]
  have hl : lv_has ls 3 [(0, .ref (ad 0)), (1, .int a0), (2, .int a1)] := hl
  have hW : pM G (MWl G ad x ++ T) s s.heap [] := hW
  refine lv_aload_n hx hb dX4_stop_0 rfl (lv_at hl 0 rfl) ?_
  refine gM0_stop hF hW q1125 dX4_stop_1 ?_
  refine lv_iload_n hx hb dX4_stop_4 rfl (lv_at hl 1 rfl) ?_
  refine ptN hF hW 20 (ci := 21) rfl rfl in_X5 tyX5 tyX5_ok nmX5 6 (by decide) (List.mem_of_getElem? (i := 5) rfl) rfl rfl rfl rfl (by decide : 6 < 8) dX4_stop_5 (fun H locs hW => ?_)
  have hW : pM G (MWl G ad (xi x 21 a0) ++ T) s _ _ := hW
  refine lv_aload_n hx hb dX4_stop_8 rfl (lv_at hl 0 rfl) ?_
  refine gM0_stop hF hW q1125 dX4_stop_9 ?_
  refine lv_iload_n hx hb dX4_stop_12 rfl (lv_at hl 2 rfl) ?_
  refine ptN hF hW 20 (ci := 21) rfl rfl in_X5 tyX5 tyX5_ok nmX5 7 (by decide) (List.mem_of_getElem? (i := 6) rfl) rfl rfl rfl rfl (by decide : 7 < 8) dX4_stop_13 (fun H locs hW => ?_)
  have hW : pM G (MWl G ad (xi (xi x 21 a0) 22 a1) ++ T) s _ _ := hW
  refine lv_aload_n hx hb dX4_stop_16 rfl (lv_at hl 0 rfl) ?_
  refine gM0_stop hF hW q1125 dX4_stop_17 ?_
  exact re_q hF hRt (Or.inl ⟨_, rfl⟩) hLk hQ (by omega) (by omega) dX4_stop_20 (some (ad 20)) rfl (xi (xi x 21 a0) 22 a1) (⟨rfl, rfl⟩) hW

set_option maxRecDepth 100000 in
set_option maxHeartbeats 4000000 in
theorem mX4_wrong (l : Launch) (G : pG) (ad : Nat → Nat) (x : XV) (T : va_W) : Met l yX4_wrong (ws_ yX4_wrong cX4_wrong 2 (some .int)) ({ frames := 0, cells := 0, slots := 0, locals := 0 } : Room) (va_Pc [.ref (ad 0), .ref (ad 20)] (fun U => pW G (MWl G ad x ++ T) U)) (va_Qi (fun r u => r = -1 ∧ u = xi (xi (xi x 1 4) 2 (x.1 22)) 3 (x.1 21)) (fun (u : XV) t9 => pW G (MWl G ad u ++ T) t9) (pA G)) 0 0 (pA G) := by
  refine mw (by decide) (Nat.le_of_ble_eq_true rfl) ?_
  intro pp ee R s m below meth c ls Q hF hRt hLk hnm hR hQ hW hl
  have hx := hF.1
  have hb := hF.2.1
  have hts := hF.2.2.2.2
  have hR1 : R.frames = 0 := by rw [hR]
  have hR2 : R.cells = 0 := by rw [hR]
  have hR3 : R.slots = 0 := by rw [hR]
  have hR4 : R.locals = 0 := by rw [hR]
  have hl : lv_has ls 2 [(0, .ref (ad 0)), (1, .ref (ad 20))] := hl
  have hW : pM G (MWl G ad x ++ T) s s.heap [] := hW
  refine lv_aload_n hx hb dX4_wrong_0 rfl (lv_at hl 0 rfl) ?_
  refine lv_aload_n hx hb dX4_wrong_1 rfl (lv_at hl 1 rfl) ?_
  refine gtN hF hW (List.mem_of_getElem? (i := 20) rfl) (ci := 21) rfl in_X5 6 (by decide) (List.mem_of_getElem? (i := 5) rfl) rfl (v := .int (x.1 21)) rfl dX4_wrong_2 ?_
  refine pM0_fault hF hW q1098 dX4_wrong_5 (fun H locs hW => ?_)
  have hW : pM G (MWl G ad (xi x 3 (x.1 21)) ++ T) s _ _ := hW
  refine lv_aload_n hx hb dX4_wrong_8 rfl (lv_at hl 0 rfl) ?_
  refine lv_iconst (v := 4) hx hb dX4_wrong_9 (by decide) ?_
  refine pM0_trouble hF hW q1096 dX4_wrong_10 (fun H locs hW => ?_)
  have hW : pM G (MWl G ad (xi (xi x 1 4) 3 (x.1 21)) ++ T) s _ _ := hW
  refine lv_aload_n hx hb dX4_wrong_13 rfl (lv_at hl 0 rfl) ?_
  refine lv_aload_n hx hb dX4_wrong_14 rfl (lv_at hl 1 rfl) ?_
  refine gtN hF hW (List.mem_of_getElem? (i := 20) rfl) (ci := 21) rfl in_X5 7 (by decide) (List.mem_of_getElem? (i := 6) rfl) rfl (v := .int (x.1 22)) rfl dX4_wrong_15 ?_
  refine pM0_where hF hW q1097 dX4_wrong_18 (fun H locs hW => ?_)
  have hW : pM G (MWl G ad (xi (xi (xi x 1 4) 2 (x.1 22)) 3 (x.1 21)) ++ T) s _ _ := hW
  refine lv_iconst (v := (-1)) hx hb dX4_wrong_21 (by decide) ?_
  exact re_i hF hRt hLk hQ (by omega) (by omega) dX4_wrong_22 (xi (xi (xi x 1 4) 2 (x.1 22)) 3 (x.1 21)) (⟨rfl, rfl⟩) hW

set_option maxRecDepth 100000 in
set_option maxHeartbeats 4000000 in
theorem mX4_byteAt (l : Launch) (G : pG) (ad : Nat → Nat) (x : XV) (T : va_W) (k n : Nat) (hn : n ≤ 300) (hsz : x.1 12 = nI n) (hk : k ≤ 301) : Met l yX4_byteAt (ws_ yX4_byteAt cX4_byteAt 2 (some .int)) ({ frames := 0, cells := 0, slots := 0, locals := 0 } : Room) (va_Pc [.ref (ad 0), .int (nI k)] (fun U => pW G (MWl G ad x ++ T) U)) (va_Qi (fun r (_ : Unit) => r = seeV (x.2.1 13) n k) (fun (u : Unit) t9 => pW G (MWl G ad x ++ T) t9) (pA G)) 0 0 (pA G) := by
  refine mw (by decide) (Nat.le_of_ble_eq_true rfl) ?_
  intro pp ee R s m below meth c ls Q hF hRt hLk hnm hR hQ hW hl
  have hx := hF.1
  have hb := hF.2.1
  have hts := hF.2.2.2.2
  have hR1 : R.frames = 0 := by rw [hR]
  have hR2 : R.cells = 0 := by rw [hR]
  have hR3 : R.slots = 0 := by rw [hR]
  have hR4 : R.locals = 0 := by rw [hR]
  have hl : lv_has ls 2 [(0, .ref (ad 0)), (1, .int (nI k))] := hl
  have hW : pM G (MWl G ad x ++ T) s s.heap [] := hW
  refine lv_iload_n hx hb dX4_byteAt_0 rfl (lv_at hl 1 rfl) ?_
  refine lv_aload_n hx hb dX4_byteAt_1 rfl (lv_at hl 0 rfl) ?_
  refine gM0_size hF hW q1128 (v := nI n) (hsz) dX4_byteAt_2 ?_
  refine lv_icmp_ge (tgt := 21) hx hb dX4_byteAt_5 (by decide) (fun c_5 => ?_) (fun c_5 => ?_)
  · refine lv_iconst (v := (-1)) hx hb dX4_byteAt_21 (by decide) ?_
    exact re_i hF hRt hLk hQ (by omega) (by omega) dX4_byteAt_22 () (by unfold seeV; rw [if_neg (by have := le_le c_5; omega)]) hW
  · have hkn : k < n := nle_lt c_5
    refine lv_aload_n hx hb dX4_byteAt_8 rfl (lv_at hl 0 rfl) ?_
    refine gM0_tape hF hW q1126 dX4_byteAt_9 ?_
    refine lv_iload_n hx hb dX4_byteAt_12 rfl (lv_at hl 1 rfl) ?_
    refine lM21 hF hW (j := k) (rfl) (by omega) (v := x.2.1 13 k) (rfl) dX4_byteAt_13 ?_
    refine lv_sipush (v := 255) hx hb dX4_byteAt_14 (by decide) ?_
    refine lv_iand hx hb dX4_byteAt_17 ?_
    refine lv_eqi (show (x.2.1 13 k) &&& 255 = nI (cod (x.2.1 13 k)) from cod_and _) ?_
    refine lv_goto (tgt := 22) hx hb dX4_byteAt_18 (by decide) ?_
    exact re_i hF hRt hLk hQ (by omega) (by omega) dX4_byteAt_22 () (by unfold seeV; rw [if_pos hkn]) hW

set_option maxRecDepth 100000 in
set_option maxHeartbeats 4000000 in
theorem mX4_isLetter (l : Launch) (G : pG) (ws : va_W) (a0 : Int32) : Met l yX4_isLetter (ws_ yX4_isLetter cX4_isLetter 1 (some .boolean)) ({ frames := 0, cells := 0, slots := 0, locals := 0 } : Room) (va_Pc [.int a0] (fun U => pW G (ws) U)) (va_Qi (fun r (_ : Unit) => (r = 1 ∧ (97 ≤ a0 ∧ a0 ≤ 122)) ∨ (r = 0 ∧ ¬ (97 ≤ a0 ∧ a0 ≤ 122))) (fun (u : Unit) t9 => pW G (ws) t9) (pA G)) 0 0 (pA G) := by
  refine mw (by decide) (Nat.le_of_ble_eq_true rfl) ?_
  intro pp ee R s m below meth c ls Q hF hRt hLk hnm hR hQ hW hl
  have hx := hF.1
  have hb := hF.2.1
  have hts := hF.2.2.2.2
  have hR1 : R.frames = 0 := by rw [hR]
  have hR2 : R.cells = 0 := by rw [hR]
  have hR3 : R.slots = 0 := by rw [hR]
  have hR4 : R.locals = 0 := by rw [hR]
  have hl : lv_has ls 1 [(0, .int a0)] := hl
  have hW : pM G (ws) s s.heap [] := hW
  refine lv_iload_n hx hb dX4_isLetter_0 rfl (lv_at hl 0 rfl) ?_
  refine lv_bipush (v := 97) hx hb dX4_isLetter_1 (by decide) ?_
  refine lv_icmp_lt (tgt := 16) hx hb dX4_isLetter_3 (by decide) (fun c_3 => ?_) (fun c_3 => ?_)
  · refine lv_iconst (v := 0) hx hb dX4_isLetter_16 (by decide) ?_
    exact re_z hF hRt hLk hQ (by omega) (by omega) (by decide) dX4_isLetter_17 () (Or.inr ⟨rfl, fun z => absurd z.1 (Int32.not_le.mpr c_3)⟩) hW
  · refine lv_iload_n hx hb dX4_isLetter_6 rfl (lv_at hl 0 rfl) ?_
    refine lv_bipush (v := 122) hx hb dX4_isLetter_7 (by decide) ?_
    refine lv_icmp_gt (tgt := 16) hx hb dX4_isLetter_9 (by decide) (fun c_9 => ?_) (fun c_9 => ?_)
    · refine lv_iconst (v := 0) hx hb dX4_isLetter_16 (by decide) ?_
      exact re_z hF hRt hLk hQ (by omega) (by omega) (by decide) dX4_isLetter_17 () (Or.inr ⟨rfl, fun z => absurd z.2 (Int32.not_le.mpr c_9)⟩) hW
    · refine lv_iconst (v := 1) hx hb dX4_isLetter_12 (by decide) ?_
      refine lv_goto (tgt := 17) hx hb dX4_isLetter_13 (by decide) ?_
      exact re_z hF hRt hLk hQ (by omega) (by omega) (by decide) dX4_isLetter_17 () (Or.inl ⟨rfl, Int32.not_lt.mp c_3, Int32.not_lt.mp c_9⟩) hW

set_option maxRecDepth 100000 in
set_option maxHeartbeats 4000000 in
theorem mX4_isUnder (l : Launch) (G : pG) (ad : Nat → Nat) (x : XV) (T : va_W) (w o nW : Nat) (hwd : WdOk (x.2.1 0) nW) (hW60 : nW ≤ 60) (hw : w < nW) (ho : o < 60) : Met l yX4_isUnder (ws_ yX4_isUnder cX4_isUnder 4 (some .boolean)) ({ frames := 0, cells := 0, slots := 0, locals := 0 } : Room) (va_Pc [.ref (ad 0), .int (nI w), .int (nI o)] (fun U => pW G (MWl G ad x ++ T) U)) (va_Qi (fun r (_ : Unit) => (r = 1 ∧ underB (x.2.1 0) w o = true) ∨ (r = 0 ∧ underB (x.2.1 0) w o = false)) (fun (u : Unit) t9 => pW G (MWl G ad x ++ T) t9) (pA G)) 0 0 (pA G) := by
  refine mw (by decide) (Nat.le_of_ble_eq_true rfl) ?_
  intro pp ee R s m below meth c ls Q hF hRt hLk hnm hR hQ hW hl
  have hx := hF.1
  have hb := hF.2.1
  have hts := hF.2.2.2.2
  have hR1 : R.frames = 0 := by rw [hR]
  have hR2 : R.cells = 0 := by rw [hR]
  have hR3 : R.slots = 0 := by rw [hR]
  have hR4 : R.locals = 0 := by rw [hR]
  have hl : lv_has ls 4 [(0, .ref (ad 0)), (1, .int (nI w)), (2, .int (nI o))] := hl
  have hW : pM G (MWl G ad x ++ T) s s.heap [] := hW
  refine lv_iload_n hx hb dX4_isUnder_0 rfl (lv_at hl 1 rfl) ?_
  refine lv_istore_n (lv' := [(3, .int (nI w)), (0, .ref (ad 0)), (1, .int (nI w)), (2, .int (nI o))]) hx hb dX4_isUnder_1 rfl hl (by decide) rfl (fun ls hl => ?_)
  have loop_2 : ∀ (nn : Nat) (k : Nat) (H : Heap) (locs : List Loc) (ls : Array Slot), k < nn → (k < nW) → (underB (x.2.1 0) w o = underB (x.2.1 0) k o) → pM G (MWl G ad x ++ T) s H locs → lv_has ls 4 [(0, .ref (ad 0)), (1, .int (nI w)), (2, .int (nI o)), (3, .int (nI k))] → W pp l ee R s m ([.ref (ad 0), .int (nI w), .int (nI o)] : List Value).toArray below meth c H locs 0 0 Q (F0 m 2 ls []) := by
    intro nn
    induction nn with
    | zero => intro k H locs ls hm; exact absurd hm (Nat.not_lt_zero _)
    | succ nn ih =>
      intro k H locs ls hm hk hres hW hl
      refine lv_iload_n hx hb dX4_isUnder_2 rfl (lv_at hl 3 rfl) ?_
      refine lv_iconst (v := (-1)) hx hb dX4_isUnder_3 (by decide) ?_
      refine lv_icmp_eq (tgt := 22) hx hb dX4_isUnder_4 (by decide) (fun c_4 => absurd c_4 (nI_ne_m1 (by omega))) (fun c_4 => ?_)
      refine lv_iload_n hx hb dX4_isUnder_7 rfl (lv_at hl 3 rfl) ?_
      refine lv_iload_n hx hb dX4_isUnder_8 rfl (lv_at hl 2 rfl) ?_
      refine lv_icmp_eq (tgt := 22) hx hb dX4_isUnder_9 (by decide) (fun c_9 => ?_) (fun c_9 => ?_)
      · refine lv_iload_n hx hb dX4_isUnder_22 rfl (lv_at hl 3 rfl) ?_
        refine lv_iload_n hx hb dX4_isUnder_23 rfl (lv_at hl 2 rfl) ?_
        refine lv_icmp_ne (tgt := 31) hx hb dX4_isUnder_24 (by decide) (fun c_24 => absurd c_9 c_24) (fun c_24 => ?_)
        refine lv_iconst (v := 1) hx hb dX4_isUnder_27 (by decide) ?_
        refine lv_goto (tgt := 32) hx hb dX4_isUnder_28 (by decide) ?_
        exact re_z hF hRt hLk hQ (by omega) (by omega) (by decide) dX4_isUnder_32 () (Or.inl ⟨rfl, hres.trans (by rw [eq_eq c_9]; exact under_self)⟩) hW
      · refine lv_aload_n hx hb dX4_isUnder_12 rfl (lv_at hl 0 rfl) ?_
        refine gM0_wider hF hW q1106 dX4_isUnder_13 ?_
        refine lv_iload_n hx hb dX4_isUnder_16 rfl (lv_at hl 3 rfl) ?_
        refine lM2 hF hW (j := k) (rfl) (by omega) (v := x.2.1 0 k) (rfl) dX4_isUnder_17 ?_
        have hne : ¬ k = o := fun z => c_9 (by rw [z])
        rcases hwd k hk with hz | ⟨j, hj, hz⟩
        · refine lv_eqi (show x.2.1 0 k = -1 from hz) ?_
          refine lv_istore_n (lv' := [(3, .int (-1)), (0, .ref (ad 0)), (1, .int (nI w)), (2, .int (nI o))]) hx hb dX4_isUnder_18 rfl hl (by decide) rfl (fun ls hl => ?_)
          refine lv_goto (tgt := 2) hx hb dX4_isUnder_19 (by decide) ?_
          refine lv_iload_n hx hb dX4_isUnder_2 rfl (lv_at hl 0 rfl) ?_
          refine lv_iconst (v := (-1)) hx hb dX4_isUnder_3 (by decide) ?_
          refine lv_icmp_eq (tgt := 22) hx hb dX4_isUnder_4 (by decide) (fun c_4 => ?_) (fun c_4 => absurd c_4 (by decide))
          refine lv_iload_n hx hb dX4_isUnder_22 rfl (lv_at hl 0 rfl) ?_
          refine lv_iload_n hx hb dX4_isUnder_23 rfl (lv_at hl 3 rfl) ?_
          refine lv_icmp_ne (tgt := 31) hx hb dX4_isUnder_24 (by decide) (fun c_24 => ?_) (fun c_24 => absurd c_24.symm (nI_ne_m1 (by omega)))
          refine lv_iconst (v := 0) hx hb dX4_isUnder_31 (by decide) ?_
          exact re_z hF hRt hLk hQ (by omega) (by omega) (by decide) dX4_isUnder_32 () (Or.inr ⟨rfl, hres.trans (under_top hne hz)⟩) hW
        · refine lv_eqi (show x.2.1 0 k = nI j from hz) ?_
          refine lv_istore_n (lv' := [(3, .int (nI j)), (0, .ref (ad 0)), (1, .int (nI w)), (2, .int (nI o))]) hx hb dX4_isUnder_18 rfl hl (by decide) rfl (fun ls hl => ?_)
          refine lv_goto (tgt := 2) hx hb dX4_isUnder_19 (by decide) ?_
          exact ih j H locs ls (by omega) (by omega) (hres.trans (under_up hwd hW60 hk hne hj hz)) hW (lv_sub hl [1, 2, 3, 0] rfl)
  exact loop_2 _ w _ _ _ (Nat.lt_succ_self _) (hw) (rfl) hW (lv_sub hl [1, 2, 3, 0] rfl)
