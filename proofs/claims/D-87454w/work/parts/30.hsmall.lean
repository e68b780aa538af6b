/-! the hall's small methods -/
theorem mrw {ws : va_W} {q : Nat × va_E} {w0 : va_W} (h : q ∈ ws) : q ∈ w0 ++ ws := List.mem_append_right _ h
def nb (v : Int32) : Int32 := vp_nar .byte v.toInt8.toInt32
def wr (f : Nat → Int32) (tp : Nat) : List Int32 → (Nat → Int32)
  | [] => f
  | v :: l => wr (va_up f tp v) (tp + 1) l
def bytesOf (w : Int32) : List Int32 := [nb (w >>> (24 &&& 31)), nb (w >>> (16 &&& 31)), nb (w >>> (8 &&& 31)), nb (w >>> (0 &&& 31))]
theorem wr_app (f : Nat → Int32) (a b : List Int32) : ∀ tp, wr f tp (a ++ b) = wr (wr f tp a) (tp + a.length) b := by
  induction a generalizing f with
  | nil => intro tp; rfl
  | cons v l ih =>
    intro tp
    show wr (va_up f tp v) (tp + 1) (l ++ b) = _
    rw [ih, List.length_cons, show tp + (l.length + 1) = tp + 1 + l.length by omega]
    rfl

set_option maxRecDepth 100000 in
set_option maxHeartbeats 4000000 in
/-- in: the bounds -/
theorem mX0_in (l : Launch) (G : pG) (ws : va_W) (a0 a1 a2 : Int32) : Met l yX0_in (ws_ yX0_in cX0_in 3 (some .boolean)) ({ frames := 0, cells := 0, slots := 0, locals := 0 } : Room) (va_Pc [.int a0, .int a1, .int a2] (fun U => pW G (ws) U)) (va_Qi (fun r (_ : Unit) => (r = 1 ∧ (a1 ≤ a0 ∧ a0 ≤ a2)) ∨ (r = 0 ∧ ¬ (a1 ≤ a0 ∧ a0 ≤ a2))) (fun (u : Unit) t9 => pW G (ws) t9) (pA G)) 0 0 (pA G) := by
  refine mw (by decide) (Nat.le_of_ble_eq_true rfl) ?_
  intro pp ee R s m below meth c ls Q hF hRt hLk hnm hR hQ hW hl
  have hx := hF.1
  have hb := hF.2.1
  have hts := hF.2.2.2.2
  have hR1 : R.frames = 0 := by rw [hR]
  have hR2 : R.cells = 0 := by rw [hR]
  have hR3 : R.slots = 0 := by rw [hR]
  have hR4 : R.locals = 0 := by rw [hR]
  have hl : lv_has ls 3 [(0, .int a0), (1, .int a1), (2, .int a2)] := hl
  have hW : pM G (ws) s s.heap [] := hW
  refine lv_iload_n hx hb dX0_in_0 rfl (lv_at hl 0 rfl) ?_
  refine lv_iload_n hx hb dX0_in_1 rfl (lv_at hl 1 rfl) ?_
  refine lv_icmp_lt (tgt := 14) hx hb dX0_in_2 (by decide) (fun c_2 => ?_) (fun c_2 => ?_)
  · refine lv_iconst (v := 0) hx hb dX0_in_14 (by decide) ?_
    exact re_z hF hRt hLk hQ (by omega) (by omega) (by decide) dX0_in_15 () (Or.inr ⟨rfl, fun z => absurd z.1 (Int32.not_le.mpr c_2)⟩) hW
  · refine lv_iload_n hx hb dX0_in_5 rfl (lv_at hl 0 rfl) ?_
    refine lv_iload_n hx hb dX0_in_6 rfl (lv_at hl 2 rfl) ?_
    refine lv_icmp_gt (tgt := 14) hx hb dX0_in_7 (by decide) (fun c_7 => ?_) (fun c_7 => ?_)
    · refine lv_iconst (v := 0) hx hb dX0_in_14 (by decide) ?_
      exact re_z hF hRt hLk hQ (by omega) (by omega) (by decide) dX0_in_15 () (Or.inr ⟨rfl, fun z => absurd z.2 (Int32.not_le.mpr c_7)⟩) hW
    · refine lv_iconst (v := 1) hx hb dX0_in_10 (by decide) ?_
      refine lv_goto (tgt := 15) hx hb dX0_in_11 (by decide) ?_
      exact re_z hF hRt hLk hQ (by omega) (by omega) (by decide) dX0_in_15 () (Or.inl ⟨rfl, Int32.not_lt.mp c_2, Int32.not_lt.mp c_7⟩) hW

set_option maxRecDepth 100000 in
set_option maxHeartbeats 4000000 in
theorem mX0_begins (l : Launch) (G : pG) (ad : Nat → Nat) (x : XV) (T : va_W) : Met l yX0_begins (ws_ yX0_begins cX0_begins 1 none) ({ frames := 0, cells := 0, slots := 0, locals := 0 } : Room) (va_Pc [.ref (ad 0)] (fun U => pW G (HWl G ad x ++ T) U)) (va_Qv (fun u => u = xi (xi x 8 0) 10 (-1)) (fun (u : XV) t9 => pW G (HWl G ad u ++ T) t9) (pA G)) 0 0 (pA G) := by
  refine mw (by decide) (Nat.le_of_ble_eq_true rfl) ?_
  intro pp ee R s m below meth c ls Q hF hRt hLk hnm hR hQ hW hl
  have hx := hF.1
  have hb := hF.2.1
  have hts := hF.2.2.2.2
  have hR1 : R.frames = 0 := by rw [hR]
  have hR2 : R.cells = 0 := by rw [hR]
  have hR3 : R.slots = 0 := by rw [hR]
  have hR4 : R.locals = 0 := by rw [hR]
  have hl : lv_has ls 1 [(0, .ref (ad 0))] := hl
  have hW : pM G (HWl G ad x ++ T) s s.heap [] := hW
  refine lv_aload_n hx hb dX0_begins_0 rfl (lv_at hl 0 rfl) ?_
  refine lv_iconst (v := 0) hx hb dX0_begins_1 (by decide) ?_
  refine pH0_trouble hF hW q283 dX0_begins_2 (fun H locs hW => ?_)
  have hW : pM G (HWl G ad (xi x 8 0) ++ T) s _ _ := hW
  refine lv_aload_n hx hb dX0_begins_5 rfl (lv_at hl 0 rfl) ?_
  refine lv_iconst (v := (-1)) hx hb dX0_begins_6 (by decide) ?_
  refine pH0_where hF hW q285 dX0_begins_7 (fun H locs hW => ?_)
  have hW : pM G (HWl G ad (xi (xi x 8 0) 10 (-1)) ++ T) s _ _ := hW
  exact re_v hF hRt hLk hQ (by omega) (by omega) dX0_begins_10 (xi (xi x 8 0) 10 (-1)) (rfl) hW

set_option maxRecDepth 100000 in
set_option maxHeartbeats 4000000 in
theorem mX0_bytes (l : Launch) (G : pG) (ad : Nat → Nat) (x : XV) (T : va_W) (a0 : Int32) (tp : Nat) (htp : tp + 4 ≤ 300) (h0 : x.1 0 = nI tp) : Met l yX0_bytes (ws_ yX0_bytes cX0_bytes 3 none) ({ frames := 0, cells := 0, slots := 0, locals := 0 } : Room) (va_Pc [.ref (ad 0), .int a0] (fun U => pW G (HWl G ad x ++ T) U)) (va_Qv (fun u => u = xi (xa x 0 (wr (x.2.1 0) tp (bytesOf a0))) 0 (nI (tp + 4))) (fun (u : XV) t9 => pW G (HWl G ad u ++ T) t9) (pA G)) 0 0 (pA G) := by
  refine mw (by decide) (Nat.le_of_ble_eq_true rfl) ?_
  intro pp ee R s m below meth c ls Q hF hRt hLk hnm hR hQ hW hl
  have hx := hF.1
  have hb := hF.2.1
  have hts := hF.2.2.2.2
  have hR1 : R.frames = 0 := by rw [hR]
  have hR2 : R.cells = 0 := by rw [hR]
  have hR3 : R.slots = 0 := by rw [hR]
  have hR4 : R.locals = 0 := by rw [hR]
  have hl : lv_has ls 3 [(0, .ref (ad 0)), (1, .int a0)] := hl
  have hW : pM G (HWl G ad x ++ T) s s.heap [] := hW
  refine lv_bipush (v := 24) hx hb dX0_bytes_0 (by decide) ?_
  refine lv_istore_n (lv' := [(2, .int 24), (0, .ref (ad 0)), (1, .int a0)]) hx hb dX0_bytes_2 rfl hl (by decide) rfl (fun ls hl => ?_)
  refine lv_iload_n hx hb dX0_bytes_3 rfl (lv_at hl 0 rfl) ?_
  refine lv_if_lt (tgt := 36) hx hb dX0_bytes_4 (by decide) (fun c_4 => absurd c_4 (by decide)) (fun c_4 => ?_)
  refine lv_aload_n hx hb dX0_bytes_7 rfl (lv_at hl 1 rfl) ?_
  refine gH0_tape hF hW q259 dX0_bytes_8 ?_
  refine lv_aload_n hx hb dX0_bytes_11 rfl (lv_at hl 1 rfl) ?_
  refine gH0_taped hF hW q260 (v := nI tp) (h0) dX0_bytes_12 ?_
  refine lv_iload_n hx hb dX0_bytes_15 rfl (lv_at hl 2 rfl) ?_
  refine lv_iload_n hx hb dX0_bytes_16 rfl (lv_at hl 0 rfl) ?_
  refine lv_ishr hx hb dX0_bytes_17 ?_
  refine lv_i2b hx hb dX0_bytes_18 rfl ?_
  refine sH1 hF hW (j := tp) (rfl) (by omega) dX0_bytes_19 (fun H locs hW => ?_)
  have hW : pM G (HWl G ad (xa x 0 (va_up (x.2.1 0) tp (vp_nar .byte ((a0 >>> (24 &&& 31)).toInt8.toInt32)))) ++ T) s _ _ := hW
  refine lv_aload_n hx hb dX0_bytes_20 rfl (lv_at hl 1 rfl) ?_
  refine lv_dup hx hb dX0_bytes_21 rfl ?_
  refine gH0_taped hF hW q260 (v := nI tp) (h0) dX0_bytes_22 ?_
  refine lv_iconst (v := 1) hx hb dX0_bytes_25 (by decide) ?_
  refine lv_iadd hx hb dX0_bytes_26 ?_
  refine lv_eqi (show (nI tp) + 1 = nI (tp + 1) from nI_add tp 1) ?_
  refine pH0_taped hF hW q260 dX0_bytes_27 (fun H locs hW => ?_)
  have hW : pM G (HWl G ad (xa (xi x 0 (nI (tp + 1))) 0 (va_up (x.2.1 0) tp (vp_nar .byte ((a0 >>> (24 &&& 31)).toInt8.toInt32)))) ++ T) s _ _ := hW
  refine lv_iinc (v := 16) (lv' := [(2, .int 16), (0, .ref (ad 0)), (1, .int a0)]) hx hb dX0_bytes_30 hl (k := 0) rfl (by decide) (by decide) rfl (fun ls hl => ?_)
  refine lv_goto (tgt := 3) hx hb dX0_bytes_33 (by decide) ?_
  refine lv_iload_n hx hb dX0_bytes_3 rfl (lv_at hl 0 rfl) ?_
  refine lv_if_lt (tgt := 36) hx hb dX0_bytes_4 (by decide) (fun c_4 => absurd c_4 (by decide)) (fun c_4 => ?_)
  refine lv_aload_n hx hb dX0_bytes_7 rfl (lv_at hl 1 rfl) ?_
  refine gH0_tape hF hW q259 dX0_bytes_8 ?_
  refine lv_aload_n hx hb dX0_bytes_11 rfl (lv_at hl 1 rfl) ?_
  refine gH0_taped hF hW q260 (v := nI (tp + 1)) (rfl) dX0_bytes_12 ?_
  refine lv_iload_n hx hb dX0_bytes_15 rfl (lv_at hl 2 rfl) ?_
  refine lv_iload_n hx hb dX0_bytes_16 rfl (lv_at hl 0 rfl) ?_
  refine lv_ishr hx hb dX0_bytes_17 ?_
  refine lv_i2b hx hb dX0_bytes_18 rfl ?_
  refine sH1 hF hW (j := (tp + 1)) (rfl) (by omega) dX0_bytes_19 (fun H locs hW => ?_)
  have hW : pM G (HWl G ad (xa (xi x 0 (nI (tp + 1))) 0 (va_up (va_up (x.2.1 0) tp (vp_nar .byte ((a0 >>> (24 &&& 31)).toInt8.toInt32))) (tp + 1) (vp_nar .byte ((a0 >>> (16 &&& 31)).toInt8.toInt32)))) ++ T) s _ _ := hW
  refine lv_aload_n hx hb dX0_bytes_20 rfl (lv_at hl 1 rfl) ?_
  refine lv_dup hx hb dX0_bytes_21 rfl ?_
  refine gH0_taped hF hW q260 (v := nI (tp + 1)) (rfl) dX0_bytes_22 ?_
  refine lv_iconst (v := 1) hx hb dX0_bytes_25 (by decide) ?_
  refine lv_iadd hx hb dX0_bytes_26 ?_
  refine lv_eqi (show (nI (tp + 1)) + 1 = nI ((tp + 1) + 1) from nI_add (tp + 1) 1) ?_
  refine pH0_taped hF hW q260 dX0_bytes_27 (fun H locs hW => ?_)
  have hW : pM G (HWl G ad (xa (xi x 0 (nI ((tp + 1) + 1))) 0 (va_up (va_up (x.2.1 0) tp (vp_nar .byte ((a0 >>> (24 &&& 31)).toInt8.toInt32))) (tp + 1) (vp_nar .byte ((a0 >>> (16 &&& 31)).toInt8.toInt32)))) ++ T) s _ _ := hW
  refine lv_iinc (v := 8) (lv' := [(2, .int 8), (0, .ref (ad 0)), (1, .int a0)]) hx hb dX0_bytes_30 hl (k := 0) rfl (by decide) (by decide) rfl (fun ls hl => ?_)
  refine lv_goto (tgt := 3) hx hb dX0_bytes_33 (by decide) ?_
  refine lv_iload_n hx hb dX0_bytes_3 rfl (lv_at hl 0 rfl) ?_
  refine lv_if_lt (tgt := 36) hx hb dX0_bytes_4 (by decide) (fun c_4 => absurd c_4 (by decide)) (fun c_4 => ?_)
  refine lv_aload_n hx hb dX0_bytes_7 rfl (lv_at hl 1 rfl) ?_
  refine gH0_tape hF hW q259 dX0_bytes_8 ?_
  refine lv_aload_n hx hb dX0_bytes_11 rfl (lv_at hl 1 rfl) ?_
  refine gH0_taped hF hW q260 (v := nI ((tp + 1) + 1)) (rfl) dX0_bytes_12 ?_
  refine lv_iload_n hx hb dX0_bytes_15 rfl (lv_at hl 2 rfl) ?_
  refine lv_iload_n hx hb dX0_bytes_16 rfl (lv_at hl 0 rfl) ?_
  refine lv_ishr hx hb dX0_bytes_17 ?_
  refine lv_i2b hx hb dX0_bytes_18 rfl ?_
  refine sH1 hF hW (j := ((tp + 1) + 1)) (rfl) (by omega) dX0_bytes_19 (fun H locs hW => ?_)
  have hW : pM G (HWl G ad (xa (xi x 0 (nI ((tp + 1) + 1))) 0 (va_up (va_up (va_up (x.2.1 0) tp (vp_nar .byte ((a0 >>> (24 &&& 31)).toInt8.toInt32))) (tp + 1) (vp_nar .byte ((a0 >>> (16 &&& 31)).toInt8.toInt32))) ((tp + 1) + 1) (vp_nar .byte ((a0 >>> (8 &&& 31)).toInt8.toInt32)))) ++ T) s _ _ := hW
  refine lv_aload_n hx hb dX0_bytes_20 rfl (lv_at hl 1 rfl) ?_
  refine lv_dup hx hb dX0_bytes_21 rfl ?_
  refine gH0_taped hF hW q260 (v := nI ((tp + 1) + 1)) (rfl) dX0_bytes_22 ?_
  refine lv_iconst (v := 1) hx hb dX0_bytes_25 (by decide) ?_
  refine lv_iadd hx hb dX0_bytes_26 ?_
  refine lv_eqi (show (nI ((tp + 1) + 1)) + 1 = nI (((tp + 1) + 1) + 1) from nI_add ((tp + 1) + 1) 1) ?_
  refine pH0_taped hF hW q260 dX0_bytes_27 (fun H locs hW => ?_)
  have hW : pM G (HWl G ad (xa (xi x 0 (nI (((tp + 1) + 1) + 1))) 0 (va_up (va_up (va_up (x.2.1 0) tp (vp_nar .byte ((a0 >>> (24 &&& 31)).toInt8.toInt32))) (tp + 1) (vp_nar .byte ((a0 >>> (16 &&& 31)).toInt8.toInt32))) ((tp + 1) + 1) (vp_nar .byte ((a0 >>> (8 &&& 31)).toInt8.toInt32)))) ++ T) s _ _ := hW
  refine lv_iinc (v := 0) (lv' := [(2, .int 0), (0, .ref (ad 0)), (1, .int a0)]) hx hb dX0_bytes_30 hl (k := 0) rfl (by decide) (by decide) rfl (fun ls hl => ?_)
  refine lv_goto (tgt := 3) hx hb dX0_bytes_33 (by decide) ?_
  refine lv_iload_n hx hb dX0_bytes_3 rfl (lv_at hl 0 rfl) ?_
  refine lv_if_lt (tgt := 36) hx hb dX0_bytes_4 (by decide) (fun c_4 => absurd c_4 (by decide)) (fun c_4 => ?_)
  refine lv_aload_n hx hb dX0_bytes_7 rfl (lv_at hl 1 rfl) ?_
  refine gH0_tape hF hW q259 dX0_bytes_8 ?_
  refine lv_aload_n hx hb dX0_bytes_11 rfl (lv_at hl 1 rfl) ?_
  refine gH0_taped hF hW q260 (v := nI (((tp + 1) + 1) + 1)) (rfl) dX0_bytes_12 ?_
  refine lv_iload_n hx hb dX0_bytes_15 rfl (lv_at hl 2 rfl) ?_
  refine lv_iload_n hx hb dX0_bytes_16 rfl (lv_at hl 0 rfl) ?_
  refine lv_ishr hx hb dX0_bytes_17 ?_
  refine lv_i2b hx hb dX0_bytes_18 rfl ?_
  refine sH1 hF hW (j := (((tp + 1) + 1) + 1)) (rfl) (by omega) dX0_bytes_19 (fun H locs hW => ?_)
  have hW : pM G (HWl G ad (xa (xi x 0 (nI (((tp + 1) + 1) + 1))) 0 (va_up (va_up (va_up (va_up (x.2.1 0) tp (vp_nar .byte ((a0 >>> (24 &&& 31)).toInt8.toInt32))) (tp + 1) (vp_nar .byte ((a0 >>> (16 &&& 31)).toInt8.toInt32))) ((tp + 1) + 1) (vp_nar .byte ((a0 >>> (8 &&& 31)).toInt8.toInt32))) (((tp + 1) + 1) + 1) (vp_nar .byte ((a0 >>> (0 &&& 31)).toInt8.toInt32)))) ++ T) s _ _ := hW
  refine lv_aload_n hx hb dX0_bytes_20 rfl (lv_at hl 1 rfl) ?_
  refine lv_dup hx hb dX0_bytes_21 rfl ?_
  refine gH0_taped hF hW q260 (v := nI (((tp + 1) + 1) + 1)) (rfl) dX0_bytes_22 ?_
  refine lv_iconst (v := 1) hx hb dX0_bytes_25 (by decide) ?_
  refine lv_iadd hx hb dX0_bytes_26 ?_
  refine lv_eqi (show (nI (((tp + 1) + 1) + 1)) + 1 = nI ((((tp + 1) + 1) + 1) + 1) from nI_add (((tp + 1) + 1) + 1) 1) ?_
  refine pH0_taped hF hW q260 dX0_bytes_27 (fun H locs hW => ?_)
  have hW : pM G (HWl G ad (xa (xi x 0 (nI ((((tp + 1) + 1) + 1) + 1))) 0 (va_up (va_up (va_up (va_up (x.2.1 0) tp (vp_nar .byte ((a0 >>> (24 &&& 31)).toInt8.toInt32))) (tp + 1) (vp_nar .byte ((a0 >>> (16 &&& 31)).toInt8.toInt32))) ((tp + 1) + 1) (vp_nar .byte ((a0 >>> (8 &&& 31)).toInt8.toInt32))) (((tp + 1) + 1) + 1) (vp_nar .byte ((a0 >>> (0 &&& 31)).toInt8.toInt32)))) ++ T) s _ _ := hW
  refine lv_iinc (v := (-8)) (lv' := [(2, .int (-8)), (0, .ref (ad 0)), (1, .int a0)]) hx hb dX0_bytes_30 hl (k := 0) rfl (by decide) (by decide) rfl (fun ls hl => ?_)
  refine lv_goto (tgt := 3) hx hb dX0_bytes_33 (by decide) ?_
  refine lv_iload_n hx hb dX0_bytes_3 rfl (lv_at hl 0 rfl) ?_
  refine lv_if_lt (tgt := 36) hx hb dX0_bytes_4 (by decide) (fun c_4 => ?_) (fun c_4 => absurd c_4 (by decide))
  exact re_v hF hRt hLk hQ (by omega) (by omega) dX0_bytes_36 (xa (xi x 0 (nI ((((tp + 1) + 1) + 1) + 1))) 0 (va_up (va_up (va_up (va_up (x.2.1 0) tp (vp_nar .byte ((a0 >>> (24 &&& 31)).toInt8.toInt32))) (tp + 1) (vp_nar .byte ((a0 >>> (16 &&& 31)).toInt8.toInt32))) ((tp + 1) + 1) (vp_nar .byte ((a0 >>> (8 &&& 31)).toInt8.toInt32))) (((tp + 1) + 1) + 1) (vp_nar .byte ((a0 >>> (0 &&& 31)).toInt8.toInt32)))) (rfl) hW
