/-! the small classes: constructors and their few methods -/
set_option maxRecDepth 100000 in
set_option maxHeartbeats 4000000 in
theorem mX11_init (l : Launch) (G : pG) (Z : va_W) (a : Nat) (v0 : Int32) (v1 : Int32) (v2 : Int32)  : Met l yX11_init (ws_ yX11_init cX11_init 4 none) ({ frames := 1, cells := 0, slots := 0, locals := 12 } : Room) (va_Pc [.ref a, .int v0, .int v1, .int v2] (fun U => pW G (Z ++ ((a, .inr (5, [.int 0, .int 0, .int 0])) :: [])) U)) (va_Qv (fun (_ : Unit) => True) (fun (u : Unit) t9 => pW G (Z ++ ((a, .inr (5, [.int v0, .int v1, .int v2])) :: [])) t9) (pA G)) 0 0 (pA G) := by
  refine mw (by decide) (Nat.le_of_ble_eq_true rfl) ?_
  intro pp ee R s m below meth c ls Q hF hRt hLk hnm hR hQ hW hl
  have hx := hF.1
  have hb := hF.2.1
  have hts := hF.2.2.2.2
  have hR1 : R.frames = 1 := by rw [hR]
  have hR2 : R.cells = 0 := by rw [hR]
  have hR3 : R.slots = 0 := by rw [hR]
  have hR4 : R.locals = 12 := by rw [hR]
  have hl : lv_has ls 4 [(0, .ref a), (1, .int v0), (2, .int v1), (3, .int v2)] := hl
  have hW : pM G (Z ++ ((a, .inr (5, [.int 0, .int 0, .int 0])) :: [])) s s.heap [] := hW
  refine lv_aload_n hx hb dX11_init_0 rfl (lv_at hl 0 rfl) ?_
  refine W.objInit hx hb hF.2.2.2.1 (hts _ q619) (hts _ q97) (hts _ q98) rfl (by rw [hF.2.2.1]; exact hl.1) rfl dX11_init_1 (lb hR1 rfl) (lb hR4 rfl) ?_
  refine W.eq (g2 := F0 m 4 ls []) rfl ?_
  refine lv_aload_n hx hb dX11_init_4 rfl (lv_at hl 0 rfl) ?_
  refine lv_iload_n hx hb dX11_init_5 rfl (lv_at hl 1 rfl) ?_
  refine pzF (Z) [] ([]) (Cn := RX11) (T := TX11) (N := 3) (ci := 5) hF hnm hW rfl in_X11 tyX11 tyX11_ok nmX11 0 (by decide) q620 rfl rfl rfl rfl rfl (by decide : 0 < 3) dX11_init_6 (fun H locs hW => ?_)
  have hW : pM G (Z ++ ((a, .inr (5, [.int v0, .int 0, .int 0])) :: [])) s _ _ := hW
  refine lv_aload_n hx hb dX11_init_9 rfl (lv_at hl 0 rfl) ?_
  refine lv_iload_n hx hb dX11_init_10 rfl (lv_at hl 2 rfl) ?_
  refine pzF (Z) [] ([]) (Cn := RX11) (T := TX11) (N := 3) (ci := 5) hF hnm hW rfl in_X11 tyX11 tyX11_ok nmX11 1 (by decide) q623 rfl rfl rfl rfl rfl (by decide : 1 < 3) dX11_init_11 (fun H locs hW => ?_)
  have hW : pM G (Z ++ ((a, .inr (5, [.int v0, .int v1, .int 0])) :: [])) s _ _ := hW
  refine lv_aload_n hx hb dX11_init_14 rfl (lv_at hl 0 rfl) ?_
  refine lv_iload_n hx hb dX11_init_15 rfl (lv_at hl 3 rfl) ?_
  refine pzF (Z) [] ([]) (Cn := RX11) (T := TX11) (N := 3) (ci := 5) hF hnm hW rfl in_X11 tyX11 tyX11_ok nmX11 2 (by decide) q626 rfl rfl rfl rfl rfl (by decide : 2 < 3) dX11_init_16 (fun H locs hW => ?_)
  have hW : pM G (Z ++ ((a, .inr (5, [.int v0, .int v1, .int v2])) :: [])) s _ _ := hW
  exact re_v hF hRt hLk hQ (by omega) (by omega) dX11_init_19 () (trivial) hW

set_option maxRecDepth 100000 in
set_option maxHeartbeats 4000000 in
theorem mX7_init (l : Launch) (G : pG) (ws : va_W) (a : Nat) : Met l yX7_init (ws_ yX7_init cX7_init 1 none) ({ frames := 1, cells := 0, slots := 0, locals := 12 } : Room) (va_Pc [.ref a] (fun U => pW G (ws) U)) (va_Qv (fun (_ : Unit) => True) (fun (u : Unit) t9 => pW G (ws) t9) (pA G)) 0 0 (pA G) := by
  refine mw (by decide) (Nat.le_of_ble_eq_true rfl) ?_
  intro pp ee R s m below meth c ls Q hF hRt hLk hnm hR hQ hW hl
  have hx := hF.1
  have hb := hF.2.1
  have hts := hF.2.2.2.2
  have hR1 : R.frames = 1 := by rw [hR]
  have hR2 : R.cells = 0 := by rw [hR]
  have hR3 : R.slots = 0 := by rw [hR]
  have hR4 : R.locals = 12 := by rw [hR]
  have hl : lv_has ls 1 [(0, .ref a)] := hl
  have hW : pM G (ws) s s.heap [] := hW
  refine lv_aload_n hx hb dX7_init_0 rfl (lv_at hl 0 rfl) ?_
  refine W.objInit hx hb hF.2.2.2.1 (hts _ q494) (hts _ q97) (hts _ q98) rfl (by rw [hF.2.2.1]; exact hl.1) rfl dX7_init_1 (lb hR1 rfl) (lb hR4 rfl) ?_
  refine W.eq (g2 := F0 m 4 ls []) rfl ?_
  exact re_v hF hRt hLk hQ (by omega) (by omega) dX7_init_4 () (trivial) hW

set_option maxRecDepth 100000 in
set_option maxHeartbeats 4000000 in
theorem mX12_init_X12 (l : Launch) (G : pG) (Z : va_W) (a : Nat) (v0 : Nat) (v1 : Int32)  : Met l yX12_init (ws_ yX12_init cX12_init 3 none) ({ frames := 1, cells := 0, slots := 0, locals := 12 } : Room) (va_Pc [.ref a, .ref v0, .int v1] (fun U => pW G (Z ++ ((a, .inr (6, [.null, .int 0])) :: [])) U)) (va_Qv (fun (_ : Unit) => True) (fun (u : Unit) t9 => pW G (Z ++ ((a, .inr (6, [.ref v0, .int v1])) :: [])) t9) (pA G)) 0 0 (pA G) := by
  refine mw (by decide) (Nat.le_of_ble_eq_true rfl) ?_
  intro pp ee R s m below meth c ls Q hF hRt hLk hnm hR hQ hW hl
  have hx := hF.1
  have hb := hF.2.1
  have hts := hF.2.2.2.2
  have hR1 : R.frames = 1 := by rw [hR]
  have hR2 : R.cells = 0 := by rw [hR]
  have hR3 : R.slots = 0 := by rw [hR]
  have hR4 : R.locals = 12 := by rw [hR]
  have hl : lv_has ls 3 [(0, .ref a), (1, .ref v0), (2, .int v1)] := hl
  have hW : pM G (Z ++ ((a, .inr (6, [.null, .int 0])) :: [])) s s.heap [] := hW
  refine lv_aload_n hx hb dX12_init_0 rfl (lv_at hl 0 rfl) ?_
  refine W.objInit hx hb hF.2.2.2.1 (hts _ q655) (hts _ q97) (hts _ q98) rfl (by rw [hF.2.2.1]; exact hl.1) rfl dX12_init_1 (lb hR1 rfl) (lb hR4 rfl) ?_
  refine W.eq (g2 := F0 m 4 ls []) rfl ?_
  refine lv_aload_n hx hb dX12_init_4 rfl (lv_at hl 0 rfl) ?_
  refine lv_aload_n hx hb dX12_init_5 rfl (lv_at hl 1 rfl) ?_
  refine pzF (Z) [] ([]) (Cn := RX12) (T := TX12) (N := 2) (ci := 6) hF hnm hW rfl in_X12 tyX12 tyX12_ok nmX12 0 (by decide) q657 rfl rfl rfl rfl rfl (by decide : 0 < 2) dX12_init_6 (fun H locs hW => ?_)
  have hW : pM G (Z ++ ((a, .inr (6, [.ref v0, .int 0])) :: [])) s _ _ := hW
  refine lv_aload_n hx hb dX12_init_9 rfl (lv_at hl 0 rfl) ?_
  refine lv_iload_n hx hb dX12_init_10 rfl (lv_at hl 2 rfl) ?_
  refine pzF (Z) [] ([]) (Cn := RX12) (T := TX12) (N := 2) (ci := 6) hF hnm hW rfl in_X12 tyX12 tyX12_ok nmX12 1 (by decide) q663 rfl rfl rfl rfl rfl (by decide : 1 < 2) dX12_init_11 (fun H locs hW => ?_)
  have hW : pM G (Z ++ ((a, .inr (6, [.ref v0, .int v1])) :: [])) s _ _ := hW
  exact re_v hF hRt hLk hQ (by omega) (by omega) dX12_init_14 () (trivial) hW

set_option maxRecDepth 100000 in
set_option maxHeartbeats 4000000 in
theorem mX12_init_X13 (l : Launch) (G : pG) (Z : va_W) (a : Nat) (v0 : Nat) (v1 : Int32)  : Met l yX12_init (ws_ yX12_init cX12_init 3 none) ({ frames := 1, cells := 0, slots := 0, locals := 12 } : Room) (va_Pc [.ref a, .ref v0, .int v1] (fun U => pW G (Z ++ ((a, .inr (7, [.null, .int 0, .int 0])) :: [])) U)) (va_Qv (fun (_ : Unit) => True) (fun (u : Unit) t9 => pW G (Z ++ ((a, .inr (7, [.ref v0, .int v1, .int 0])) :: [])) t9) (pA G)) 0 0 (pA G) := by
  refine mw (by decide) (Nat.le_of_ble_eq_true rfl) ?_
  intro pp ee R s m below meth c ls Q hF hRt hLk hnm hR hQ hW hl
  have hx := hF.1
  have hb := hF.2.1
  have hts := hF.2.2.2.2
  have hR1 : R.frames = 1 := by rw [hR]
  have hR2 : R.cells = 0 := by rw [hR]
  have hR3 : R.slots = 0 := by rw [hR]
  have hR4 : R.locals = 12 := by rw [hR]
  have hl : lv_has ls 3 [(0, .ref a), (1, .ref v0), (2, .int v1)] := hl
  have hW : pM G (Z ++ ((a, .inr (7, [.null, .int 0, .int 0])) :: [])) s s.heap [] := hW
  refine lv_aload_n hx hb dX12_init_0 rfl (lv_at hl 0 rfl) ?_
  refine W.objInit hx hb hF.2.2.2.1 (hts _ q655) (hts _ q97) (hts _ q98) rfl (by rw [hF.2.2.1]; exact hl.1) rfl dX12_init_1 (lb hR1 rfl) (lb hR4 rfl) ?_
  refine W.eq (g2 := F0 m 4 ls []) rfl ?_
  refine lv_aload_n hx hb dX12_init_4 rfl (lv_at hl 0 rfl) ?_
  refine lv_aload_n hx hb dX12_init_5 rfl (lv_at hl 1 rfl) ?_
  refine pzF (Z) [] ([]) (Cn := RX13) (T := TX13) (N := 3) (ci := 7) hF hnm hW rfl in_X13 tyX13 tyX13_ok nmX13 0 (by decide) q657 rfl rfl rfl rfl rfl (by decide : 0 < 3) dX12_init_6 (fun H locs hW => ?_)
  have hW : pM G (Z ++ ((a, .inr (7, [.ref v0, .int 0, .int 0])) :: [])) s _ _ := hW
  refine lv_aload_n hx hb dX12_init_9 rfl (lv_at hl 0 rfl) ?_
  refine lv_iload_n hx hb dX12_init_10 rfl (lv_at hl 2 rfl) ?_
  refine pzF (Z) [] ([]) (Cn := RX13) (T := TX13) (N := 3) (ci := 7) hF hnm hW rfl in_X13 tyX13 tyX13_ok nmX13 1 (by decide) q663 rfl rfl rfl rfl rfl (by decide : 1 < 3) dX12_init_11 (fun H locs hW => ?_)
  have hW : pM G (Z ++ ((a, .inr (7, [.ref v0, .int v1, .int 0])) :: [])) s _ _ := hW
  exact re_v hF hRt hLk hQ (by omega) (by omega) dX12_init_14 () (trivial) hW

set_option maxRecDepth 100000 in
set_option maxHeartbeats 4000000 in
theorem mX12_init_X16 (l : Launch) (G : pG) (Z : va_W) (a : Nat) (v0 : Nat) (v1 : Int32)  : Met l yX12_init (ws_ yX12_init cX12_init 3 none) ({ frames := 1, cells := 0, slots := 0, locals := 12 } : Room) (va_Pc [.ref a, .ref v0, .int v1] (fun U => pW G (Z ++ ((a, .inr (8, [.null, .int 0, .null])) :: [])) U)) (va_Qv (fun (_ : Unit) => True) (fun (u : Unit) t9 => pW G (Z ++ ((a, .inr (8, [.ref v0, .int v1, .null])) :: [])) t9) (pA G)) 0 0 (pA G) := by
  refine mw (by decide) (Nat.le_of_ble_eq_true rfl) ?_
  intro pp ee R s m below meth c ls Q hF hRt hLk hnm hR hQ hW hl
  have hx := hF.1
  have hb := hF.2.1
  have hts := hF.2.2.2.2
  have hR1 : R.frames = 1 := by rw [hR]
  have hR2 : R.cells = 0 := by rw [hR]
  have hR3 : R.slots = 0 := by rw [hR]
  have hR4 : R.locals = 12 := by rw [hR]
  have hl : lv_has ls 3 [(0, .ref a), (1, .ref v0), (2, .int v1)] := hl
  have hW : pM G (Z ++ ((a, .inr (8, [.null, .int 0, .null])) :: [])) s s.heap [] := hW
  refine lv_aload_n hx hb dX12_init_0 rfl (lv_at hl 0 rfl) ?_
  refine W.objInit hx hb hF.2.2.2.1 (hts _ q655) (hts _ q97) (hts _ q98) rfl (by rw [hF.2.2.1]; exact hl.1) rfl dX12_init_1 (lb hR1 rfl) (lb hR4 rfl) ?_
  refine W.eq (g2 := F0 m 4 ls []) rfl ?_
  refine lv_aload_n hx hb dX12_init_4 rfl (lv_at hl 0 rfl) ?_
  refine lv_aload_n hx hb dX12_init_5 rfl (lv_at hl 1 rfl) ?_
  refine pzF (Z) [] ([]) (Cn := RX16) (T := TX16) (N := 3) (ci := 8) hF hnm hW rfl in_X16 tyX16 tyX16_ok nmX16 0 (by decide) q657 rfl rfl rfl rfl rfl (by decide : 0 < 3) dX12_init_6 (fun H locs hW => ?_)
  have hW : pM G (Z ++ ((a, .inr (8, [.ref v0, .int 0, .null])) :: [])) s _ _ := hW
  refine lv_aload_n hx hb dX12_init_9 rfl (lv_at hl 0 rfl) ?_
  refine lv_iload_n hx hb dX12_init_10 rfl (lv_at hl 2 rfl) ?_
  refine pzF (Z) [] ([]) (Cn := RX16) (T := TX16) (N := 3) (ci := 8) hF hnm hW rfl in_X16 tyX16 tyX16_ok nmX16 1 (by decide) q663 rfl rfl rfl rfl rfl (by decide : 1 < 3) dX12_init_11 (fun H locs hW => ?_)
  have hW : pM G (Z ++ ((a, .inr (8, [.ref v0, .int v1, .null])) :: [])) s _ _ := hW
  exact re_v hF hRt hLk hQ (by omega) (by omega) dX12_init_14 () (trivial) hW

set_option maxRecDepth 100000 in
set_option maxHeartbeats 4000000 in
theorem mX13_init (l : Launch) (G : pG) (Z : va_W) (a : Nat) (v0 : Nat) (v1 : Int32) (v2 : Int32)  : Met l yX13_init (ws_ yX13_init cX13_init 4 none) ({ frames := 2, cells := 0, slots := 0, locals := 34 } : Room) (va_Pc [.ref a, .ref v0, .int v1, .int v2] (fun U => pW G (Z ++ ((a, .inr (7, [.null, .int 0, .int 0])) :: [])) U)) (va_Qv (fun (_ : Unit) => True) (fun (u : Unit) t9 => pW G (Z ++ ((a, .inr (7, [.ref v0, .int v1, .int v2])) :: [])) t9) (pA G)) 0 0 (pA G) := by
  refine mw (by decide) (Nat.le_of_ble_eq_true rfl) ?_
  intro pp ee R s m below meth c ls Q hF hRt hLk hnm hR hQ hW hl
  have hx := hF.1
  have hb := hF.2.1
  have hts := hF.2.2.2.2
  have hR1 : R.frames = 2 := by rw [hR]
  have hR2 : R.cells = 0 := by rw [hR]
  have hR3 : R.slots = 0 := by rw [hR]
  have hR4 : R.locals = 34 := by rw [hR]
  have hl : lv_has ls 4 [(0, .ref a), (1, .ref v0), (2, .int v1), (3, .int v2)] := hl
  have hW : pM G (Z ++ ((a, .inr (7, [.null, .int 0, .int 0])) :: [])) s s.heap [] := hW
  refine lv_aload_n hx hb dX13_init_0 rfl (lv_at hl 0 rfl) ?_
  refine lv_aload_n hx hb dX13_init_1 rfl (lv_at hl 1 rfl) ?_
  refine lv_iload_n hx hb dX13_init_2 rfl (lv_at hl 2 rfl) ?_
  refine cl_v (ru_I (As := [.ref v0, .int v1]) (rest := []) hF (mX12_init_X13 l G Z a v0 v1) (cwI 2 hts (lw_meth q654) rfl rfl rfl (hts _ q79) (hts _ q652) (hts _ q653) rfl (by decide +kernel) ⟨lb hR1 rfl, lb hR4 rfl⟩) hW rfl rfl hl.1 rfl (lv_room (Nat.le_of_ble_eq_true rfl)) dX13_init_3 ⟨by omega, by omega⟩) hW (fun u_ H locs h_ hW => ?_)
  have hW : pM G (Z ++ ((a, .inr (7, [.ref v0, .int v1, .int 0])) :: [])) s _ _ := hW
  refine lv_aload_n hx hb dX13_init_6 rfl (lv_at hl 0 rfl) ?_
  refine lv_iload_n hx hb dX13_init_7 rfl (lv_at hl 3 rfl) ?_
  refine pzF (Z) [] ([]) (Cn := RX13) (T := TX13) (N := 3) (ci := 7) hF hnm hW rfl in_X13 tyX13 tyX13_ok nmX13 2 (by decide) q656 rfl rfl rfl rfl rfl (by decide : 2 < 3) dX13_init_8 (fun H locs hW => ?_)
  have hW : pM G (Z ++ ((a, .inr (7, [.ref v0, .int v1, .int v2])) :: [])) s _ _ := hW
  exact re_v hF hRt hLk hQ (by omega) (by omega) dX13_init_11 () (trivial) hW

set_option maxRecDepth 100000 in
set_option maxHeartbeats 4000000 in
theorem mX16_init_n (l : Launch) (G : pG) (Z : va_W) (a : Nat) (v0 : Nat) (v1 : Int32)  : Met l yX16_init (ws_ yX16_init cX16_init 4 none) ({ frames := 2, cells := 0, slots := 0, locals := 34 } : Room) (va_Pc [.ref a, .ref v0, .int v1, .null] (fun U => pW G (Z ++ ((a, .inr (8, [.null, .int 0, .null])) :: [])) U)) (va_Qv (fun (_ : Unit) => True) (fun (u : Unit) t9 => pW G (Z ++ ((a, .inr (8, [.ref v0, .int v1, .null])) :: [])) t9) (pA G)) 0 0 (pA G) := by
  refine mw (by decide) (Nat.le_of_ble_eq_true rfl) ?_
  intro pp ee R s m below meth c ls Q hF hRt hLk hnm hR hQ hW hl
  have hx := hF.1
  have hb := hF.2.1
  have hts := hF.2.2.2.2
  have hR1 : R.frames = 2 := by rw [hR]
  have hR2 : R.cells = 0 := by rw [hR]
  have hR3 : R.slots = 0 := by rw [hR]
  have hR4 : R.locals = 34 := by rw [hR]
  have hl : lv_has ls 4 [(0, .ref a), (1, .ref v0), (2, .int v1), (3, .null)] := hl
  have hW : pM G (Z ++ ((a, .inr (8, [.null, .int 0, .null])) :: [])) s s.heap [] := hW
  refine lv_aload_n hx hb dX16_init_0 rfl (lv_at hl 0 rfl) ?_
  refine lv_aload_n hx hb dX16_init_1 rfl (lv_at hl 1 rfl) ?_
  refine lv_iload_n hx hb dX16_init_2 rfl (lv_at hl 2 rfl) ?_
  refine cl_v (ru_I (As := [.ref v0, .int v1]) (rest := []) hF (mX12_init_X16 l G Z a v0 v1) (cwI 2 hts (lw_meth q654) rfl rfl rfl (hts _ q79) (hts _ q710) (hts _ q653) rfl (by decide +kernel) ⟨lb hR1 rfl, lb hR4 rfl⟩) hW rfl rfl hl.1 rfl (lv_room (Nat.le_of_ble_eq_true rfl)) dX16_init_3 ⟨by omega, by omega⟩) hW (fun u_ H locs h_ hW => ?_)
  have hW : pM G (Z ++ ((a, .inr (8, [.ref v0, .int v1, .null])) :: [])) s _ _ := hW
  refine lv_aload_n hx hb dX16_init_6 rfl (lv_at hl 0 rfl) ?_
  refine lv_aload_nN hx hb dX16_init_7 rfl (lv_at hl 3 rfl) ?_
  refine pzF (Z) [] ([]) (Cn := RX16) (T := TX16) (N := 3) (ci := 8) hF hnm hW rfl in_X16 tyX16 tyX16_ok nmX16 2 (by decide) q711 rfl rfl rfl rfl rfl (by decide : 2 < 3) dX16_init_8 (fun H locs hW => ?_)
  have hW : pM G (Z ++ ((a, .inr (8, [.ref v0, .int v1, .null])) :: [])) s _ _ := hW
  exact re_v hF hRt hLk hQ (by omega) (by omega) dX16_init_11 () (trivial) hW

set_option maxRecDepth 100000 in
set_option maxHeartbeats 4000000 in
theorem mX16_init_r (l : Launch) (G : pG) (Z : va_W) (a : Nat) (v0 : Nat) (v1 : Int32) (v2 : Nat)  : Met l yX16_init (ws_ yX16_init cX16_init 4 none) ({ frames := 2, cells := 0, slots := 0, locals := 34 } : Room) (va_Pc [.ref a, .ref v0, .int v1, .ref v2] (fun U => pW G (Z ++ ((a, .inr (8, [.null, .int 0, .null])) :: [])) U)) (va_Qv (fun (_ : Unit) => True) (fun (u : Unit) t9 => pW G (Z ++ ((a, .inr (8, [.ref v0, .int v1, .ref v2])) :: [])) t9) (pA G)) 0 0 (pA G) := by
  refine mw (by decide) (Nat.le_of_ble_eq_true rfl) ?_
  intro pp ee R s m below meth c ls Q hF hRt hLk hnm hR hQ hW hl
  have hx := hF.1
  have hb := hF.2.1
  have hts := hF.2.2.2.2
  have hR1 : R.frames = 2 := by rw [hR]
  have hR2 : R.cells = 0 := by rw [hR]
  have hR3 : R.slots = 0 := by rw [hR]
  have hR4 : R.locals = 34 := by rw [hR]
  have hl : lv_has ls 4 [(0, .ref a), (1, .ref v0), (2, .int v1), (3, .ref v2)] := hl
  have hW : pM G (Z ++ ((a, .inr (8, [.null, .int 0, .null])) :: [])) s s.heap [] := hW
  refine lv_aload_n hx hb dX16_init_0 rfl (lv_at hl 0 rfl) ?_
  refine lv_aload_n hx hb dX16_init_1 rfl (lv_at hl 1 rfl) ?_
  refine lv_iload_n hx hb dX16_init_2 rfl (lv_at hl 2 rfl) ?_
  refine cl_v (ru_I (As := [.ref v0, .int v1]) (rest := []) hF (mX12_init_X16 l G Z a v0 v1) (cwI 2 hts (lw_meth q654) rfl rfl rfl (hts _ q79) (hts _ q710) (hts _ q653) rfl (by decide +kernel) ⟨lb hR1 rfl, lb hR4 rfl⟩) hW rfl rfl hl.1 rfl (lv_room (Nat.le_of_ble_eq_true rfl)) dX16_init_3 ⟨by omega, by omega⟩) hW (fun u_ H locs h_ hW => ?_)
  have hW : pM G (Z ++ ((a, .inr (8, [.ref v0, .int v1, .null])) :: [])) s _ _ := hW
  refine lv_aload_n hx hb dX16_init_6 rfl (lv_at hl 0 rfl) ?_
  refine lv_aload_n hx hb dX16_init_7 rfl (lv_at hl 3 rfl) ?_
  refine pzF (Z) [] ([]) (Cn := RX16) (T := TX16) (N := 3) (ci := 8) hF hnm hW rfl in_X16 tyX16 tyX16_ok nmX16 2 (by decide) q711 rfl rfl rfl rfl rfl (by decide : 2 < 3) dX16_init_8 (fun H locs hW => ?_)
  have hW : pM G (Z ++ ((a, .inr (8, [.ref v0, .int v1, .ref v2])) :: [])) s _ _ := hW
  exact re_v hF hRt hLk hQ (by omega) (by omega) dX16_init_11 () (trivial) hW

set_option maxRecDepth 100000 in
set_option maxHeartbeats 4000000 in
theorem mX18_init_n (l : Launch) (G : pG) (Z : va_W) (a : Nat) (v0 : Int32) (v1 : Int32) (v2 : Int32) (v4 : Nat)  : Met l yX18_init (ws_ yX18_init cX18_init 6 none) ({ frames := 1, cells := 0, slots := 0, locals := 12 } : Room) (va_Pc [.ref a, .int v0, .int v1, .int v2, .null, .ref v4] (fun U => pW G (Z ++ ((a, .inr (9, [.int 0, .int 0, .int 0, .null, .null, .int 0, .int 0])) :: [])) U)) (va_Qv (fun (_ : Unit) => True) (fun (u : Unit) t9 => pW G (Z ++ ((a, .inr (9, [.int v0, .int v1, .int v2, .null, .ref v4, .int (-1), .int (-1)])) :: [])) t9) (pA G)) 0 0 (pA G) := by
  refine mw (by decide) (Nat.le_of_ble_eq_true rfl) ?_
  intro pp ee R s m below meth c ls Q hF hRt hLk hnm hR hQ hW hl
  have hx := hF.1
  have hb := hF.2.1
  have hts := hF.2.2.2.2
  have hR1 : R.frames = 1 := by rw [hR]
  have hR2 : R.cells = 0 := by rw [hR]
  have hR3 : R.slots = 0 := by rw [hR]
  have hR4 : R.locals = 12 := by rw [hR]
  have hl : lv_has ls 6 [(0, .ref a), (1, .int v0), (2, .int v1), (3, .int v2), (4, .null), (5, .ref v4)] := hl
  have hW : pM G (Z ++ ((a, .inr (9, [.int 0, .int 0, .int 0, .null, .null, .int 0, .int 0])) :: [])) s s.heap [] := hW
  refine lv_aload_n hx hb dX18_init_0 rfl (lv_at hl 0 rfl) ?_
  refine W.objInit hx hb hF.2.2.2.1 (hts _ q772) (hts _ q97) (hts _ q98) rfl (by rw [hF.2.2.1]; exact hl.1) rfl dX18_init_1 (lb hR1 rfl) (lb hR4 rfl) ?_
  refine W.eq (g2 := F0 m 4 ls []) rfl ?_
  refine lv_aload_n hx hb dX18_init_4 rfl (lv_at hl 0 rfl) ?_
  refine lv_iconst (v := (-1)) hx hb dX18_init_5 (by decide) ?_
  refine pz (Z) [] ([]) (Cn := RX18) (T := TX18) (N := 7) (ci := 9) hF hW rfl in_X18 tyX18 tyX18_ok nmX18 5 (by decide) q784 rfl rfl rfl rfl (by decide : 5 < 7) dX18_init_6 (fun H locs hW => ?_)
  have hW : pM G (Z ++ ((a, .inr (9, [.int 0, .int 0, .int 0, .null, .null, .int (-1), .int 0])) :: [])) s _ _ := hW
  refine lv_aload_n hx hb dX18_init_9 rfl (lv_at hl 0 rfl) ?_
  refine lv_iconst (v := (-1)) hx hb dX18_init_10 (by decide) ?_
  refine pz (Z) [] ([]) (Cn := RX18) (T := TX18) (N := 7) (ci := 9) hF hW rfl in_X18 tyX18 tyX18_ok nmX18 6 (by decide) q787 rfl rfl rfl rfl (by decide : 6 < 7) dX18_init_11 (fun H locs hW => ?_)
  have hW : pM G (Z ++ ((a, .inr (9, [.int 0, .int 0, .int 0, .null, .null, .int (-1), .int (-1)])) :: [])) s _ _ := hW
  refine lv_aload_n hx hb dX18_init_14 rfl (lv_at hl 0 rfl) ?_
  refine lv_iload_n hx hb dX18_init_15 rfl (lv_at hl 1 rfl) ?_
  refine pzF (Z) [] ([]) (Cn := RX18) (T := TX18) (N := 7) (ci := 9) hF hnm hW rfl in_X18 tyX18 tyX18_ok nmX18 0 (by decide) q773 rfl rfl rfl rfl rfl (by decide : 0 < 7) dX18_init_16 (fun H locs hW => ?_)
  have hW : pM G (Z ++ ((a, .inr (9, [.int v0, .int 0, .int 0, .null, .null, .int (-1), .int (-1)])) :: [])) s _ _ := hW
  refine lv_aload_n hx hb dX18_init_19 rfl (lv_at hl 0 rfl) ?_
  refine lv_iload_n hx hb dX18_init_20 rfl (lv_at hl 2 rfl) ?_
  refine pzF (Z) [] ([]) (Cn := RX18) (T := TX18) (N := 7) (ci := 9) hF hnm hW rfl in_X18 tyX18 tyX18_ok nmX18 1 (by decide) q775 rfl rfl rfl rfl rfl (by decide : 1 < 7) dX18_init_21 (fun H locs hW => ?_)
  have hW : pM G (Z ++ ((a, .inr (9, [.int v0, .int v1, .int 0, .null, .null, .int (-1), .int (-1)])) :: [])) s _ _ := hW
  refine lv_aload_n hx hb dX18_init_24 rfl (lv_at hl 0 rfl) ?_
  refine lv_iload_n hx hb dX18_init_25 rfl (lv_at hl 3 rfl) ?_
  refine pzF (Z) [] ([]) (Cn := RX18) (T := TX18) (N := 7) (ci := 9) hF hnm hW rfl in_X18 tyX18 tyX18_ok nmX18 2 (by decide) q777 rfl rfl rfl rfl rfl (by decide : 2 < 7) dX18_init_26 (fun H locs hW => ?_)
  have hW : pM G (Z ++ ((a, .inr (9, [.int v0, .int v1, .int v2, .null, .null, .int (-1), .int (-1)])) :: [])) s _ _ := hW
  refine lv_aload_n hx hb dX18_init_29 rfl (lv_at hl 0 rfl) ?_
  refine lv_aloadN hx hb dX18_init_30 (lv_at hl 4 rfl) ?_
  refine pzF (Z) [] ([]) (Cn := RX18) (T := TX18) (N := 7) (ci := 9) hF hnm hW rfl in_X18 tyX18 tyX18_ok nmX18 3 (by decide) q779 rfl rfl rfl rfl rfl (by decide : 3 < 7) dX18_init_32 (fun H locs hW => ?_)
  have hW : pM G (Z ++ ((a, .inr (9, [.int v0, .int v1, .int v2, .null, .null, .int (-1), .int (-1)])) :: [])) s _ _ := hW
  refine lv_aload_n hx hb dX18_init_35 rfl (lv_at hl 0 rfl) ?_
  refine lv_aload hx hb dX18_init_36 (lv_at hl 5 rfl) ?_
  refine pz (Z) [] ([]) (Cn := RX18) (T := TX18) (N := 7) (ci := 9) hF hW rfl in_X18 tyX18 tyX18_ok nmX18 4 (by decide) q781 rfl rfl rfl rfl (by decide : 4 < 7) dX18_init_38 (fun H locs hW => ?_)
  have hW : pM G (Z ++ ((a, .inr (9, [.int v0, .int v1, .int v2, .null, .ref v4, .int (-1), .int (-1)])) :: [])) s _ _ := hW
  exact re_v hF hRt hLk hQ (by omega) (by omega) dX18_init_41 () (trivial) hW

set_option maxRecDepth 100000 in
set_option maxHeartbeats 4000000 in
theorem mX18_init_r (l : Launch) (G : pG) (Z : va_W) (a : Nat) (v0 : Int32) (v1 : Int32) (v2 : Int32) (v3 : Nat) (v4 : Nat)  : Met l yX18_init (ws_ yX18_init cX18_init 6 none) ({ frames := 1, cells := 0, slots := 0, locals := 12 } : Room) (va_Pc [.ref a, .int v0, .int v1, .int v2, .ref v3, .ref v4] (fun U => pW G (Z ++ ((a, .inr (9, [.int 0, .int 0, .int 0, .null, .null, .int 0, .int 0])) :: [])) U)) (va_Qv (fun (_ : Unit) => True) (fun (u : Unit) t9 => pW G (Z ++ ((a, .inr (9, [.int v0, .int v1, .int v2, .ref v3, .ref v4, .int (-1), .int (-1)])) :: [])) t9) (pA G)) 0 0 (pA G) := by
  refine mw (by decide) (Nat.le_of_ble_eq_true rfl) ?_
  intro pp ee R s m below meth c ls Q hF hRt hLk hnm hR hQ hW hl
  have hx := hF.1
  have hb := hF.2.1
  have hts := hF.2.2.2.2
  have hR1 : R.frames = 1 := by rw [hR]
  have hR2 : R.cells = 0 := by rw [hR]
  have hR3 : R.slots = 0 := by rw [hR]
  have hR4 : R.locals = 12 := by rw [hR]
  have hl : lv_has ls 6 [(0, .ref a), (1, .int v0), (2, .int v1), (3, .int v2), (4, .ref v3), (5, .ref v4)] := hl
  have hW : pM G (Z ++ ((a, .inr (9, [.int 0, .int 0, .int 0, .null, .null, .int 0, .int 0])) :: [])) s s.heap [] := hW
  refine lv_aload_n hx hb dX18_init_0 rfl (lv_at hl 0 rfl) ?_
  refine W.objInit hx hb hF.2.2.2.1 (hts _ q772) (hts _ q97) (hts _ q98) rfl (by rw [hF.2.2.1]; exact hl.1) rfl dX18_init_1 (lb hR1 rfl) (lb hR4 rfl) ?_
  refine W.eq (g2 := F0 m 4 ls []) rfl ?_
  refine lv_aload_n hx hb dX18_init_4 rfl (lv_at hl 0 rfl) ?_
  refine lv_iconst (v := (-1)) hx hb dX18_init_5 (by decide) ?_
  refine pz (Z) [] ([]) (Cn := RX18) (T := TX18) (N := 7) (ci := 9) hF hW rfl in_X18 tyX18 tyX18_ok nmX18 5 (by decide) q784 rfl rfl rfl rfl (by decide : 5 < 7) dX18_init_6 (fun H locs hW => ?_)
  have hW : pM G (Z ++ ((a, .inr (9, [.int 0, .int 0, .int 0, .null, .null, .int (-1), .int 0])) :: [])) s _ _ := hW
  refine lv_aload_n hx hb dX18_init_9 rfl (lv_at hl 0 rfl) ?_
  refine lv_iconst (v := (-1)) hx hb dX18_init_10 (by decide) ?_
  refine pz (Z) [] ([]) (Cn := RX18) (T := TX18) (N := 7) (ci := 9) hF hW rfl in_X18 tyX18 tyX18_ok nmX18 6 (by decide) q787 rfl rfl rfl rfl (by decide : 6 < 7) dX18_init_11 (fun H locs hW => ?_)
  have hW : pM G (Z ++ ((a, .inr (9, [.int 0, .int 0, .int 0, .null, .null, .int (-1), .int (-1)])) :: [])) s _ _ := hW
  refine lv_aload_n hx hb dX18_init_14 rfl (lv_at hl 0 rfl) ?_
  refine lv_iload_n hx hb dX18_init_15 rfl (lv_at hl 1 rfl) ?_
  refine pzF (Z) [] ([]) (Cn := RX18) (T := TX18) (N := 7) (ci := 9) hF hnm hW rfl in_X18 tyX18 tyX18_ok nmX18 0 (by decide) q773 rfl rfl rfl rfl rfl (by decide : 0 < 7) dX18_init_16 (fun H locs hW => ?_)
  have hW : pM G (Z ++ ((a, .inr (9, [.int v0, .int 0, .int 0, .null, .null, .int (-1), .int (-1)])) :: [])) s _ _ := hW
  refine lv_aload_n hx hb dX18_init_19 rfl (lv_at hl 0 rfl) ?_
  refine lv_iload_n hx hb dX18_init_20 rfl (lv_at hl 2 rfl) ?_
  refine pzF (Z) [] ([]) (Cn := RX18) (T := TX18) (N := 7) (ci := 9) hF hnm hW rfl in_X18 tyX18 tyX18_ok nmX18 1 (by decide) q775 rfl rfl rfl rfl rfl (by decide : 1 < 7) dX18_init_21 (fun H locs hW => ?_)
  have hW : pM G (Z ++ ((a, .inr (9, [.int v0, .int v1, .int 0, .null, .null, .int (-1), .int (-1)])) :: [])) s _ _ := hW
  refine lv_aload_n hx hb dX18_init_24 rfl (lv_at hl 0 rfl) ?_
  refine lv_iload_n hx hb dX18_init_25 rfl (lv_at hl 3 rfl) ?_
  refine pzF (Z) [] ([]) (Cn := RX18) (T := TX18) (N := 7) (ci := 9) hF hnm hW rfl in_X18 tyX18 tyX18_ok nmX18 2 (by decide) q777 rfl rfl rfl rfl rfl (by decide : 2 < 7) dX18_init_26 (fun H locs hW => ?_)
  have hW : pM G (Z ++ ((a, .inr (9, [.int v0, .int v1, .int v2, .null, .null, .int (-1), .int (-1)])) :: [])) s _ _ := hW
  refine lv_aload_n hx hb dX18_init_29 rfl (lv_at hl 0 rfl) ?_
  refine lv_aload hx hb dX18_init_30 (lv_at hl 4 rfl) ?_
  refine pzF (Z) [] ([]) (Cn := RX18) (T := TX18) (N := 7) (ci := 9) hF hnm hW rfl in_X18 tyX18 tyX18_ok nmX18 3 (by decide) q779 rfl rfl rfl rfl rfl (by decide : 3 < 7) dX18_init_32 (fun H locs hW => ?_)
  have hW : pM G (Z ++ ((a, .inr (9, [.int v0, .int v1, .int v2, .ref v3, .null, .int (-1), .int (-1)])) :: [])) s _ _ := hW
  refine lv_aload_n hx hb dX18_init_35 rfl (lv_at hl 0 rfl) ?_
  refine lv_aload hx hb dX18_init_36 (lv_at hl 5 rfl) ?_
  refine pz (Z) [] ([]) (Cn := RX18) (T := TX18) (N := 7) (ci := 9) hF hW rfl in_X18 tyX18 tyX18_ok nmX18 4 (by decide) q781 rfl rfl rfl rfl (by decide : 4 < 7) dX18_init_38 (fun H locs hW => ?_)
  have hW : pM G (Z ++ ((a, .inr (9, [.int v0, .int v1, .int v2, .ref v3, .ref v4, .int (-1), .int (-1)])) :: [])) s _ _ := hW
  exact re_v hF hRt hLk hQ (by omega) (by omega) dX18_init_41 () (trivial) hW

set_option maxRecDepth 100000 in
set_option maxHeartbeats 4000000 in
theorem mX8_init (l : Launch) (G : pG) (Z : va_W) (a : Nat) (v0 : Nat)  : Met l yX8_init (ws_ yX8_init cX8_init 2 none) ({ frames := 2, cells := 0, slots := 0, locals := 32 } : Room) (va_Pc [.ref a, .ref v0] (fun U => pW G (Z ++ ((a, .inr (10, [.null])) :: [])) U)) (va_Qv (fun (_ : Unit) => True) (fun (u : Unit) t9 => pW G (Z ++ ((a, .inr (10, [.ref v0])) :: [])) t9) (pA G)) 0 0 (pA G) := by
  refine mw (by decide) (Nat.le_of_ble_eq_true rfl) ?_
  intro pp ee R s m below meth c ls Q hF hRt hLk hnm hR hQ hW hl
  have hx := hF.1
  have hb := hF.2.1
  have hts := hF.2.2.2.2
  have hR1 : R.frames = 2 := by rw [hR]
  have hR2 : R.cells = 0 := by rw [hR]
  have hR3 : R.slots = 0 := by rw [hR]
  have hR4 : R.locals = 32 := by rw [hR]
  have hl : lv_has ls 2 [(0, .ref a), (1, .ref v0)] := hl
  have hW : pM G (Z ++ ((a, .inr (10, [.null])) :: [])) s s.heap [] := hW
  refine lv_aload_n hx hb dX8_init_0 rfl (lv_at hl 0 rfl) ?_
  refine lv_aload_n hx hb dX8_init_1 rfl (lv_at hl 1 rfl) ?_
  refine pzF (Z) [] ([]) (Cn := RX8) (T := TX8) (N := 1) (ci := 10) hF hnm hW rfl in_X8 tyX8 tyX8_ok nmX8 0 (by decide) q495 rfl rfl rfl rfl rfl (by decide : 0 < 1) dX8_init_2 (fun H locs hW => ?_)
  have hW : pM G (Z ++ ((a, .inr (10, [.ref v0])) :: [])) s _ _ := hW
  refine lv_aload_n hx hb dX8_init_5 rfl (lv_at hl 0 rfl) ?_
  refine cl_v (ru_IN (As := []) (rest := []) hF (mX7_init l G (Z ++ ((a, .inr (10, [.ref v0])) :: [])) a) ⟨va_cnB 0 hts (lw_meth q493) rfl rfl rfl (hW.2.2.2.2.2.1 _ (List.mem_of_getElem? (i := 27) rfl)) (hts _ q73) (by decide +kernel) ⟨lb hR1 rfl, lb hR4 rfl⟩, rfl, hts _ q492⟩ hW rfl rfl hl.1 rfl (lv_room (Nat.le_of_ble_eq_true rfl)) dX8_init_6 ⟨by omega, by omega⟩) hW (fun u_2 H locs h_3 hW => ?_)
  have hW : pM G (Z ++ ((a, .inr (10, [.ref v0])) :: [])) s _ _ := hW
  exact re_v hF hRt hLk hQ (by omega) (by omega) dX8_init_9 () (trivial) hW

set_option maxRecDepth 100000 in
set_option maxHeartbeats 4000000 in
theorem mX14_init (l : Launch) (G : pG) (Z : va_W) (a : Nat) (v0 : Nat)  : Met l yX14_init (ws_ yX14_init cX14_init 2 none) ({ frames := 2, cells := 0, slots := 0, locals := 32 } : Room) (va_Pc [.ref a, .ref v0] (fun U => pW G (Z ++ ((a, .inr (12, [.null])) :: [])) U)) (va_Qv (fun (_ : Unit) => True) (fun (u : Unit) t9 => pW G (Z ++ ((a, .inr (12, [.ref v0])) :: [])) t9) (pA G)) 0 0 (pA G) := by
  refine mw (by decide) (Nat.le_of_ble_eq_true rfl) ?_
  intro pp ee R s m below meth c ls Q hF hRt hLk hnm hR hQ hW hl
  have hx := hF.1
  have hb := hF.2.1
  have hts := hF.2.2.2.2
  have hR1 : R.frames = 2 := by rw [hR]
  have hR2 : R.cells = 0 := by rw [hR]
  have hR3 : R.slots = 0 := by rw [hR]
  have hR4 : R.locals = 32 := by rw [hR]
  have hl : lv_has ls 2 [(0, .ref a), (1, .ref v0)] := hl
  have hW : pM G (Z ++ ((a, .inr (12, [.null])) :: [])) s s.heap [] := hW
  refine lv_aload_n hx hb dX14_init_0 rfl (lv_at hl 0 rfl) ?_
  refine lv_aload_n hx hb dX14_init_1 rfl (lv_at hl 1 rfl) ?_
  refine pzF (Z) [] ([]) (Cn := RX14) (T := TX14) (N := 1) (ci := 12) hF hnm hW rfl in_X14 tyX14 tyX14_ok nmX14 0 (by decide) q679 rfl rfl rfl rfl rfl (by decide : 0 < 1) dX14_init_2 (fun H locs hW => ?_)
  have hW : pM G (Z ++ ((a, .inr (12, [.ref v0])) :: [])) s _ _ := hW
  refine lv_aload_n hx hb dX14_init_5 rfl (lv_at hl 0 rfl) ?_
  refine cl_v (ru_IN (As := []) (rest := []) hF (mX7_init l G (Z ++ ((a, .inr (12, [.ref v0])) :: [])) a) ⟨va_cnB 0 hts (lw_meth q493) rfl rfl rfl (hW.2.2.2.2.2.1 _ (List.mem_of_getElem? (i := 18) rfl)) (hts _ q73) (by decide +kernel) ⟨lb hR1 rfl, lb hR4 rfl⟩, rfl, hts _ q492⟩ hW rfl rfl hl.1 rfl (lv_room (Nat.le_of_ble_eq_true rfl)) dX14_init_6 ⟨by omega, by omega⟩) hW (fun u_2 H locs h_3 hW => ?_)
  have hW : pM G (Z ++ ((a, .inr (12, [.ref v0])) :: [])) s _ _ := hW
  exact re_v hF hRt hLk hQ (by omega) (by omega) dX14_init_9 () (trivial) hW

set_option maxRecDepth 100000 in
set_option maxHeartbeats 4000000 in
theorem mX15_init (l : Launch) (G : pG) (Z : va_W) (a : Nat) (v0 : Nat)  : Met l yX15_init (ws_ yX15_init cX15_init 2 none) ({ frames := 2, cells := 0, slots := 0, locals := 32 } : Room) (va_Pc [.ref a, .ref v0] (fun U => pW G (Z ++ ((a, .inr (13, [.null])) :: [])) U)) (va_Qv (fun (_ : Unit) => True) (fun (u : Unit) t9 => pW G (Z ++ ((a, .inr (13, [.ref v0])) :: [])) t9) (pA G)) 0 0 (pA G) := by
  refine mw (by decide) (Nat.le_of_ble_eq_true rfl) ?_
  intro pp ee R s m below meth c ls Q hF hRt hLk hnm hR hQ hW hl
  have hx := hF.1
  have hb := hF.2.1
  have hts := hF.2.2.2.2
  have hR1 : R.frames = 2 := by rw [hR]
  have hR2 : R.cells = 0 := by rw [hR]
  have hR3 : R.slots = 0 := by rw [hR]
  have hR4 : R.locals = 32 := by rw [hR]
  have hl : lv_has ls 2 [(0, .ref a), (1, .ref v0)] := hl
  have hW : pM G (Z ++ ((a, .inr (13, [.null])) :: [])) s s.heap [] := hW
  refine lv_aload_n hx hb dX15_init_0 rfl (lv_at hl 0 rfl) ?_
  refine lv_aload_n hx hb dX15_init_1 rfl (lv_at hl 1 rfl) ?_
  refine pzF (Z) [] ([]) (Cn := RX15) (T := TX15) (N := 1) (ci := 13) hF hnm hW rfl in_X15 tyX15 tyX15_ok nmX15 0 (by decide) q698 rfl rfl rfl rfl rfl (by decide : 0 < 1) dX15_init_2 (fun H locs hW => ?_)
  have hW : pM G (Z ++ ((a, .inr (13, [.ref v0])) :: [])) s _ _ := hW
  refine lv_aload_n hx hb dX15_init_5 rfl (lv_at hl 0 rfl) ?_
  refine cl_v (ru_IN (As := []) (rest := []) hF (mX7_init l G (Z ++ ((a, .inr (13, [.ref v0])) :: [])) a) ⟨va_cnB 0 hts (lw_meth q493) rfl rfl rfl (hW.2.2.2.2.2.1 _ (List.mem_of_getElem? (i := 19) rfl)) (hts _ q73) (by decide +kernel) ⟨lb hR1 rfl, lb hR4 rfl⟩, rfl, hts _ q492⟩ hW rfl rfl hl.1 rfl (lv_room (Nat.le_of_ble_eq_true rfl)) dX15_init_6 ⟨by omega, by omega⟩) hW (fun u_2 H locs h_3 hW => ?_)
  have hW : pM G (Z ++ ((a, .inr (13, [.ref v0])) :: [])) s _ _ := hW
  exact re_v hF hRt hLk hQ (by omega) (by omega) dX15_init_9 () (trivial) hW

set_option maxRecDepth 100000 in
set_option maxHeartbeats 4000000 in
theorem mX17_init (l : Launch) (G : pG) (Z : va_W) (a : Nat) (v0 : Nat)  : Met l yX17_init (ws_ yX17_init cX17_init 2 none) ({ frames := 2, cells := 0, slots := 0, locals := 32 } : Room) (va_Pc [.ref a, .ref v0] (fun U => pW G (Z ++ ((a, .inr (14, [.null])) :: [])) U)) (va_Qv (fun (_ : Unit) => True) (fun (u : Unit) t9 => pW G (Z ++ ((a, .inr (14, [.ref v0])) :: [])) t9) (pA G)) 0 0 (pA G) := by
  refine mw (by decide) (Nat.le_of_ble_eq_true rfl) ?_
  intro pp ee R s m below meth c ls Q hF hRt hLk hnm hR hQ hW hl
  have hx := hF.1
  have hb := hF.2.1
  have hts := hF.2.2.2.2
  have hR1 : R.frames = 2 := by rw [hR]
  have hR2 : R.cells = 0 := by rw [hR]
  have hR3 : R.slots = 0 := by rw [hR]
  have hR4 : R.locals = 32 := by rw [hR]
  have hl : lv_has ls 2 [(0, .ref a), (1, .ref v0)] := hl
  have hW : pM G (Z ++ ((a, .inr (14, [.null])) :: [])) s s.heap [] := hW
  refine lv_aload_n hx hb dX17_init_0 rfl (lv_at hl 0 rfl) ?_
  refine lv_aload_n hx hb dX17_init_1 rfl (lv_at hl 1 rfl) ?_
  refine pzF (Z) [] ([]) (Cn := RX17) (T := TX17) (N := 1) (ci := 14) hF hnm hW rfl in_X17 tyX17 tyX17_ok nmX17 0 (by decide) q724 rfl rfl rfl rfl rfl (by decide : 0 < 1) dX17_init_2 (fun H locs hW => ?_)
  have hW : pM G (Z ++ ((a, .inr (14, [.ref v0])) :: [])) s _ _ := hW
  refine lv_aload_n hx hb dX17_init_5 rfl (lv_at hl 0 rfl) ?_
  refine cl_v (ru_IN (As := []) (rest := []) hF (mX7_init l G (Z ++ ((a, .inr (14, [.ref v0])) :: [])) a) ⟨va_cnB 0 hts (lw_meth q493) rfl rfl rfl (hW.2.2.2.2.2.1 _ (List.mem_of_getElem? (i := 20) rfl)) (hts _ q73) (by decide +kernel) ⟨lb hR1 rfl, lb hR4 rfl⟩, rfl, hts _ q492⟩ hW rfl rfl hl.1 rfl (lv_room (Nat.le_of_ble_eq_true rfl)) dX17_init_6 ⟨by omega, by omega⟩) hW (fun u_2 H locs h_3 hW => ?_)
  have hW : pM G (Z ++ ((a, .inr (14, [.ref v0])) :: [])) s _ _ := hW
  exact re_v hF hRt hLk hQ (by omega) (by omega) dX17_init_9 () (trivial) hW

set_option maxRecDepth 100000 in
set_option maxHeartbeats 4000000 in
theorem mX19_init (l : Launch) (G : pG) (Z : va_W) (a : Nat) (v0 : Nat)  : Met l yX19_init (ws_ yX19_init cX19_init 2 none) ({ frames := 2, cells := 0, slots := 0, locals := 32 } : Room) (va_Pc [.ref a, .ref v0] (fun U => pW G (Z ++ ((a, .inr (15, [.null])) :: [])) U)) (va_Qv (fun (_ : Unit) => True) (fun (u : Unit) t9 => pW G (Z ++ ((a, .inr (15, [.ref v0])) :: [])) t9) (pA G)) 0 0 (pA G) := by
  refine mw (by decide) (Nat.le_of_ble_eq_true rfl) ?_
  intro pp ee R s m below meth c ls Q hF hRt hLk hnm hR hQ hW hl
  have hx := hF.1
  have hb := hF.2.1
  have hts := hF.2.2.2.2
  have hR1 : R.frames = 2 := by rw [hR]
  have hR2 : R.cells = 0 := by rw [hR]
  have hR3 : R.slots = 0 := by rw [hR]
  have hR4 : R.locals = 32 := by rw [hR]
  have hl : lv_has ls 2 [(0, .ref a), (1, .ref v0)] := hl
  have hW : pM G (Z ++ ((a, .inr (15, [.null])) :: [])) s s.heap [] := hW
  refine lv_aload_n hx hb dX19_init_0 rfl (lv_at hl 0 rfl) ?_
  refine lv_aload_n hx hb dX19_init_1 rfl (lv_at hl 1 rfl) ?_
  refine pzF (Z) [] ([]) (Cn := RX19) (T := TX19) (N := 1) (ci := 15) hF hnm hW rfl in_X19 tyX19 tyX19_ok nmX19 0 (by decide) q811 rfl rfl rfl rfl rfl (by decide : 0 < 1) dX19_init_2 (fun H locs hW => ?_)
  have hW : pM G (Z ++ ((a, .inr (15, [.ref v0])) :: [])) s _ _ := hW
  refine lv_aload_n hx hb dX19_init_5 rfl (lv_at hl 0 rfl) ?_
  refine cl_v (ru_IN (As := []) (rest := []) hF (mX7_init l G (Z ++ ((a, .inr (15, [.ref v0])) :: [])) a) ⟨va_cnB 0 hts (lw_meth q493) rfl rfl rfl (hW.2.2.2.2.2.1 _ (List.mem_of_getElem? (i := 21) rfl)) (hts _ q73) (by decide +kernel) ⟨lb hR1 rfl, lb hR4 rfl⟩, rfl, hts _ q492⟩ hW rfl rfl hl.1 rfl (lv_room (Nat.le_of_ble_eq_true rfl)) dX19_init_6 ⟨by omega, by omega⟩) hW (fun u_2 H locs h_3 hW => ?_)
  have hW : pM G (Z ++ ((a, .inr (15, [.ref v0])) :: [])) s _ _ := hW
  exact re_v hF hRt hLk hQ (by omega) (by omega) dX19_init_9 () (trivial) hW

set_option maxRecDepth 100000 in
set_option maxHeartbeats 4000000 in
theorem mX9_init (l : Launch) (G : pG) (Z : va_W) (a : Nat) (v0 : Nat) (v1 : Int32)  : Met l yX9_init (ws_ yX9_init cX9_init 3 none) ({ frames := 2, cells := 0, slots := 0, locals := 32 } : Room) (va_Pc [.ref a, .ref v0, .int v1] (fun U => pW G (Z ++ ((a, .inr (11, [.int 0, .null])) :: [])) U)) (va_Qv (fun (_ : Unit) => True) (fun (u : Unit) t9 => pW G (Z ++ ((a, .inr (11, [.int v1, .ref v0])) :: [])) t9) (pA G)) 0 0 (pA G) := by
  refine mw (by decide) (Nat.le_of_ble_eq_true rfl) ?_
  intro pp ee R s m below meth c ls Q hF hRt hLk hnm hR hQ hW hl
  have hx := hF.1
  have hb := hF.2.1
  have hts := hF.2.2.2.2
  have hR1 : R.frames = 2 := by rw [hR]
  have hR2 : R.cells = 0 := by rw [hR]
  have hR3 : R.slots = 0 := by rw [hR]
  have hR4 : R.locals = 32 := by rw [hR]
  have hl : lv_has ls 3 [(0, .ref a), (1, .ref v0), (2, .int v1)] := hl
  have hW : pM G (Z ++ ((a, .inr (11, [.int 0, .null])) :: [])) s s.heap [] := hW
  refine lv_aload_n hx hb dX9_init_0 rfl (lv_at hl 0 rfl) ?_
  refine lv_aload_n hx hb dX9_init_1 rfl (lv_at hl 1 rfl) ?_
  refine pzF (Z) [] ([]) (Cn := RX9) (T := TX9) (N := 2) (ci := 11) hF hnm hW rfl in_X9 tyX9 tyX9_ok nmX9 1 (by decide) q525 rfl rfl rfl rfl rfl (by decide : 1 < 2) dX9_init_2 (fun H locs hW => ?_)
  have hW : pM G (Z ++ ((a, .inr (11, [.int 0, .ref v0])) :: [])) s _ _ := hW
  refine lv_aload_n hx hb dX9_init_5 rfl (lv_at hl 0 rfl) ?_
  refine lv_iload_n hx hb dX9_init_6 rfl (lv_at hl 2 rfl) ?_
  refine pzF (Z) [] ([]) (Cn := RX9) (T := TX9) (N := 2) (ci := 11) hF hnm hW rfl in_X9 tyX9 tyX9_ok nmX9 0 (by decide) q524 rfl rfl rfl rfl rfl (by decide : 0 < 2) dX9_init_7 (fun H locs hW => ?_)
  have hW : pM G (Z ++ ((a, .inr (11, [.int v1, .ref v0])) :: [])) s _ _ := hW
  refine lv_aload_n hx hb dX9_init_10 rfl (lv_at hl 0 rfl) ?_
  refine cl_v (ru_IN (As := []) (rest := []) hF (mX7_init l G (Z ++ ((a, .inr (11, [.int v1, .ref v0])) :: [])) a) ⟨va_cnB 0 hts (lw_meth q493) rfl rfl rfl (hW.2.2.2.2.2.1 _ (List.mem_of_getElem? (i := 28) rfl)) (hts _ q73) (by decide +kernel) ⟨lb hR1 rfl, lb hR4 rfl⟩, rfl, hts _ q492⟩ hW rfl rfl hl.1 rfl (lv_room (Nat.le_of_ble_eq_true rfl)) dX9_init_11 ⟨by omega, by omega⟩) hW (fun u_2 H locs h_3 hW => ?_)
  have hW : pM G (Z ++ ((a, .inr (11, [.int v1, .ref v0])) :: [])) s _ _ := hW
  exact re_v hF hRt hLk hQ (by omega) (by omega) dX9_init_14 () (trivial) hW

set_option maxRecDepth 100000 in
set_option maxHeartbeats 4000000 in
theorem mX20_init (l : Launch) (G : pG) (Z : va_W) (a : Nat) (v0 : Nat) (v1 : Nat) (v2 : Nat)  : Met l yX20_init (ws_ yX20_init cX20_init 4 none) ({ frames := 2, cells := 0, slots := 0, locals := 32 } : Room) (va_Pc [.ref a, .ref v0, .ref v1, .ref v2] (fun U => pW G (Z ++ ((a, .inr (16, [.null, .null, .null])) :: [])) U)) (va_Qv (fun (_ : Unit) => True) (fun (u : Unit) t9 => pW G (Z ++ ((a, .inr (16, [.ref v1, .ref v2, .ref v0])) :: [])) t9) (pA G)) 0 0 (pA G) := by
  refine mw (by decide) (Nat.le_of_ble_eq_true rfl) ?_
  intro pp ee R s m below meth c ls Q hF hRt hLk hnm hR hQ hW hl
  have hx := hF.1
  have hb := hF.2.1
  have hts := hF.2.2.2.2
  have hR1 : R.frames = 2 := by rw [hR]
  have hR2 : R.cells = 0 := by rw [hR]
  have hR3 : R.slots = 0 := by rw [hR]
  have hR4 : R.locals = 32 := by rw [hR]
  have hl : lv_has ls 4 [(0, .ref a), (1, .ref v0), (2, .ref v1), (3, .ref v2)] := hl
  have hW : pM G (Z ++ ((a, .inr (16, [.null, .null, .null])) :: [])) s s.heap [] := hW
  refine lv_aload_n hx hb dX20_init_0 rfl (lv_at hl 0 rfl) ?_
  refine lv_aload_n hx hb dX20_init_1 rfl (lv_at hl 1 rfl) ?_
  refine pzF (Z) [] ([]) (Cn := RX20) (T := TX20) (N := 3) (ci := 16) hF hnm hW rfl in_X20 tyX20 tyX20_ok nmX20 2 (by decide) q835 rfl rfl rfl rfl rfl (by decide : 2 < 3) dX20_init_2 (fun H locs hW => ?_)
  have hW : pM G (Z ++ ((a, .inr (16, [.null, .null, .ref v0])) :: [])) s _ _ := hW
  refine lv_aload_n hx hb dX20_init_5 rfl (lv_at hl 0 rfl) ?_
  refine lv_aload_n hx hb dX20_init_6 rfl (lv_at hl 2 rfl) ?_
  refine pzF (Z) [] ([]) (Cn := RX20) (T := TX20) (N := 3) (ci := 16) hF hnm hW rfl in_X20 tyX20 tyX20_ok nmX20 0 (by decide) q833 rfl rfl rfl rfl rfl (by decide : 0 < 3) dX20_init_7 (fun H locs hW => ?_)
  have hW : pM G (Z ++ ((a, .inr (16, [.ref v1, .null, .ref v0])) :: [])) s _ _ := hW
  refine lv_aload_n hx hb dX20_init_10 rfl (lv_at hl 0 rfl) ?_
  refine lv_aload_n hx hb dX20_init_11 rfl (lv_at hl 3 rfl) ?_
  refine pzF (Z) [] ([]) (Cn := RX20) (T := TX20) (N := 3) (ci := 16) hF hnm hW rfl in_X20 tyX20 tyX20_ok nmX20 1 (by decide) q834 rfl rfl rfl rfl rfl (by decide : 1 < 3) dX20_init_12 (fun H locs hW => ?_)
  have hW : pM G (Z ++ ((a, .inr (16, [.ref v1, .ref v2, .ref v0])) :: [])) s _ _ := hW
  refine lv_aload_n hx hb dX20_init_15 rfl (lv_at hl 0 rfl) ?_
  refine cl_v (ru_IN (As := []) (rest := []) hF (mX7_init l G (Z ++ ((a, .inr (16, [.ref v1, .ref v2, .ref v0])) :: [])) a) ⟨va_cnB 0 hts (lw_meth q493) rfl rfl rfl (hW.2.2.2.2.2.1 _ (List.mem_of_getElem? (i := 22) rfl)) (hts _ q73) (by decide +kernel) ⟨lb hR1 rfl, lb hR4 rfl⟩, rfl, hts _ q492⟩ hW rfl rfl hl.1 rfl (lv_room (Nat.le_of_ble_eq_true rfl)) dX20_init_16 ⟨by omega, by omega⟩) hW (fun u_2 H locs h_3 hW => ?_)
  have hW : pM G (Z ++ ((a, .inr (16, [.ref v1, .ref v2, .ref v0])) :: [])) s _ _ := hW
  exact re_v hF hRt hLk hQ (by omega) (by omega) dX20_init_19 () (trivial) hW

set_option maxRecDepth 100000 in
set_option maxHeartbeats 4000000 in
theorem mX21_init (l : Launch) (G : pG) (Z : va_W) (a : Nat) (v0 : Nat) (v1 : Nat)  : Met l yX21_init (ws_ yX21_init cX21_init 3 none) ({ frames := 2, cells := 0, slots := 0, locals := 32 } : Room) (va_Pc [.ref a, .ref v0, .ref v1] (fun U => pW G (Z ++ ((a, .inr (17, [.null, .null])) :: [])) U)) (va_Qv (fun (_ : Unit) => True) (fun (u : Unit) t9 => pW G (Z ++ ((a, .inr (17, [.ref v1, .ref v0])) :: [])) t9) (pA G)) 0 0 (pA G) := by
  refine mw (by decide) (Nat.le_of_ble_eq_true rfl) ?_
  intro pp ee R s m below meth c ls Q hF hRt hLk hnm hR hQ hW hl
  have hx := hF.1
  have hb := hF.2.1
  have hts := hF.2.2.2.2
  have hR1 : R.frames = 2 := by rw [hR]
  have hR2 : R.cells = 0 := by rw [hR]
  have hR3 : R.slots = 0 := by rw [hR]
  have hR4 : R.locals = 32 := by rw [hR]
  have hl : lv_has ls 3 [(0, .ref a), (1, .ref v0), (2, .ref v1)] := hl
  have hW : pM G (Z ++ ((a, .inr (17, [.null, .null])) :: [])) s s.heap [] := hW
  refine lv_aload_n hx hb dX21_init_0 rfl (lv_at hl 0 rfl) ?_
  refine lv_aload_n hx hb dX21_init_1 rfl (lv_at hl 1 rfl) ?_
  refine pzF (Z) [] ([]) (Cn := RX21) (T := TX21) (N := 2) (ci := 17) hF hnm hW rfl in_X21 tyX21 tyX21_ok nmX21 1 (by decide) q866 rfl rfl rfl rfl rfl (by decide : 1 < 2) dX21_init_2 (fun H locs hW => ?_)
  have hW : pM G (Z ++ ((a, .inr (17, [.null, .ref v0])) :: [])) s _ _ := hW
  refine lv_aload_n hx hb dX21_init_5 rfl (lv_at hl 0 rfl) ?_
  refine lv_aload_n hx hb dX21_init_6 rfl (lv_at hl 2 rfl) ?_
  refine pzF (Z) [] ([]) (Cn := RX21) (T := TX21) (N := 2) (ci := 17) hF hnm hW rfl in_X21 tyX21 tyX21_ok nmX21 0 (by decide) q865 rfl rfl rfl rfl rfl (by decide : 0 < 2) dX21_init_7 (fun H locs hW => ?_)
  have hW : pM G (Z ++ ((a, .inr (17, [.ref v1, .ref v0])) :: [])) s _ _ := hW
  refine lv_aload_n hx hb dX21_init_10 rfl (lv_at hl 0 rfl) ?_
  refine cl_v (ru_IN (As := []) (rest := []) hF (mX7_init l G (Z ++ ((a, .inr (17, [.ref v1, .ref v0])) :: [])) a) ⟨va_cnB 0 hts (lw_meth q493) rfl rfl rfl (hW.2.2.2.2.2.1 _ (List.mem_of_getElem? (i := 23) rfl)) (hts _ q73) (by decide +kernel) ⟨lb hR1 rfl, lb hR4 rfl⟩, rfl, hts _ q492⟩ hW rfl rfl hl.1 rfl (lv_room (Nat.le_of_ble_eq_true rfl)) dX21_init_11 ⟨by omega, by omega⟩) hW (fun u_2 H locs h_3 hW => ?_)
  have hW : pM G (Z ++ ((a, .inr (17, [.ref v1, .ref v0])) :: [])) s _ _ := hW
  exact re_v hF hRt hLk hQ (by omega) (by omega) dX21_init_14 () (trivial) hW

set_option maxRecDepth 100000 in
set_option maxHeartbeats 4000000 in
theorem mX22_init (l : Launch) (G : pG) (Z : va_W) (a : Nat) (v0 : Nat) (v1 : Nat)  : Met l yX22_init (ws_ yX22_init cX22_init 3 none) ({ frames := 2, cells := 0, slots := 0, locals := 32 } : Room) (va_Pc [.ref a, .ref v0, .ref v1] (fun U => pW G (Z ++ ((a, .inr (18, [.null, .null])) :: [])) U)) (va_Qv (fun (_ : Unit) => True) (fun (u : Unit) t9 => pW G (Z ++ ((a, .inr (18, [.ref v1, .ref v0])) :: [])) t9) (pA G)) 0 0 (pA G) := by
  refine mw (by decide) (Nat.le_of_ble_eq_true rfl) ?_
  intro pp ee R s m below meth c ls Q hF hRt hLk hnm hR hQ hW hl
  have hx := hF.1
  have hb := hF.2.1
  have hts := hF.2.2.2.2
  have hR1 : R.frames = 2 := by rw [hR]
  have hR2 : R.cells = 0 := by rw [hR]
  have hR3 : R.slots = 0 := by rw [hR]
  have hR4 : R.locals = 32 := by rw [hR]
  have hl : lv_has ls 3 [(0, .ref a), (1, .ref v0), (2, .ref v1)] := hl
  have hW : pM G (Z ++ ((a, .inr (18, [.null, .null])) :: [])) s s.heap [] := hW
  refine lv_aload_n hx hb dX22_init_0 rfl (lv_at hl 0 rfl) ?_
  refine lv_aload_n hx hb dX22_init_1 rfl (lv_at hl 1 rfl) ?_
  refine pzF (Z) [] ([]) (Cn := RX22) (T := TX22) (N := 2) (ci := 18) hF hnm hW rfl in_X22 tyX22 tyX22_ok nmX22 1 (by decide) q883 rfl rfl rfl rfl rfl (by decide : 1 < 2) dX22_init_2 (fun H locs hW => ?_)
  have hW : pM G (Z ++ ((a, .inr (18, [.null, .ref v0])) :: [])) s _ _ := hW
  refine lv_aload_n hx hb dX22_init_5 rfl (lv_at hl 0 rfl) ?_
  refine lv_aload_n hx hb dX22_init_6 rfl (lv_at hl 2 rfl) ?_
  refine pzF (Z) [] ([]) (Cn := RX22) (T := TX22) (N := 2) (ci := 18) hF hnm hW rfl in_X22 tyX22 tyX22_ok nmX22 0 (by decide) q882 rfl rfl rfl rfl rfl (by decide : 0 < 2) dX22_init_7 (fun H locs hW => ?_)
  have hW : pM G (Z ++ ((a, .inr (18, [.ref v1, .ref v0])) :: [])) s _ _ := hW
  refine lv_aload_n hx hb dX22_init_10 rfl (lv_at hl 0 rfl) ?_
  refine cl_v (ru_IN (As := []) (rest := []) hF (mX7_init l G (Z ++ ((a, .inr (18, [.ref v1, .ref v0])) :: [])) a) ⟨va_cnB 0 hts (lw_meth q493) rfl rfl rfl (hW.2.2.2.2.2.1 _ (List.mem_of_getElem? (i := 24) rfl)) (hts _ q73) (by decide +kernel) ⟨lb hR1 rfl, lb hR4 rfl⟩, rfl, hts _ q492⟩ hW rfl rfl hl.1 rfl (lv_room (Nat.le_of_ble_eq_true rfl)) dX22_init_11 ⟨by omega, by omega⟩) hW (fun u_2 H locs h_3 hW => ?_)
  have hW : pM G (Z ++ ((a, .inr (18, [.ref v1, .ref v0])) :: [])) s _ _ := hW
  exact re_v hF hRt hLk hQ (by omega) (by omega) dX22_init_14 () (trivial) hW

set_option maxRecDepth 100000 in
set_option maxHeartbeats 4000000 in
theorem mJ0_X2 (l : Launch) (G : pG) (Z : va_W) (a : Nat)  : Met l yJ0_init_2 (ws_ yJ0_init_2 cJ0_init_2 5 none) ({ frames := 1, cells := 0, slots := 0, locals := 12 } : Room) (va_Pc [.ref a, .null, .null, .int 0, .int 0] (fun U => pW G (Z ++ ((a, .inr (2, [.null, .null, .null, .null, .null, .int 0, .int 0, .int 0, .int 0])) :: [])) U)) (va_Qv (fun (_ : Unit) => True) (fun (u : Unit) t9 => pW G (Z ++ ((a, .inr (2, [.null, .null, .null, .null, .null, .int 0, .int 0, .int 0, .int 0])) :: [])) t9) (pA G)) 0 0 (pA G) := by
  refine mw (by decide) (Nat.le_of_ble_eq_true rfl) ?_
  intro pp ee R s m below meth c ls Q hF hRt hLk hnm hR hQ hW hl
  have hx := hF.1
  have hb := hF.2.1
  have hts := hF.2.2.2.2
  have hR1 : R.frames = 1 := by rw [hR]
  have hR2 : R.cells = 0 := by rw [hR]
  have hR3 : R.slots = 0 := by rw [hR]
  have hR4 : R.locals = 12 := by rw [hR]
  have hl : lv_has ls 5 [(0, .ref a), (1, .null), (2, .null), (3, .int 0), (4, .int 0)] := hl
  have hW : pM G (Z ++ ((a, .inr (2, [.null, .null, .null, .null, .null, .int 0, .int 0, .int 0, .int 0])) :: [])) s s.heap [] := hW
  refine lv_aload_n hx hb dJ0_init_2_0 rfl (lv_at hl 0 rfl) ?_
  refine W.objInit hx hb hF.2.2.2.1 (hts _ q130) (hts _ q97) (hts _ q98) rfl (by rw [hF.2.2.1]; exact hl.1) rfl dJ0_init_2_1 (lb hR1 rfl) (lb hR4 rfl) ?_
  refine W.eq (g2 := F0 m 4 ls []) rfl ?_
  refine lv_aload_n hx hb dJ0_init_2_4 rfl (lv_at hl 0 rfl) ?_
  refine lv_aload_n hx hb dJ0_init_2_5 rfl (lv_at hl 0 rfl) ?_
  refine pz (Z) [] ([]) (Cn := RX2) (T := TX2) (N := 9) (ci := 2) hF hW rfl in_X2 tyX2 tyX2_ok nmX2 0 (by decide) q165 rfl rfl rfl rfl (by decide : 0 < 9) dJ0_init_2_6 (fun H locs hW => ?_)
  have hW : pM G (Z ++ ((a, .inr (2, [.ref a, .null, .null, .null, .null, .int 0, .int 0, .int 0, .int 0])) :: [])) s _ _ := hW
  refine lv_aload_n hx hb dJ0_init_2_9 rfl (lv_at hl 0 rfl) ?_
  obtain ⟨zr_1, hz_2⟩ := zq hW.2.2.2.2.2.2.2.2.2.1
  refine gs hF hW hz_2 q131 dJ0_init_2_10 ?_
  cases zr_1 with
  | none =>
    refine lv_eqv (y := .null) rfl ?_
    refine pz (Z) [] ([]) (Cn := RX2) (T := TX2) (N := 9) (ci := 2) hF hW rfl in_X2 tyX2 tyX2_ok nmX2 1 (by decide) q166 rfl rfl rfl rfl (by decide : 1 < 9) dJ0_init_2_13 (fun H locs hW => ?_)
    have hW : pM G (Z ++ ((a, .inr (2, [.ref a, .null, .null, .null, .null, .int 0, .int 0, .int 0, .int 0])) :: [])) s _ _ := hW
    refine lv_aload_n hx hb dJ0_init_2_16 rfl (lv_at hl 0 rfl) ?_
    obtain ⟨zr_3, hz_4⟩ := zq hW.2.2.2.2.2.2.2.2.2.2.1
    refine gs hF hW hz_4 q133 dJ0_init_2_17 ?_
    cases zr_3 with
    | none =>
      refine lv_eqv (y := .null) rfl ?_
      refine pz (Z) [] ([]) (Cn := RX2) (T := TX2) (N := 9) (ci := 2) hF hW rfl in_X2 tyX2 tyX2_ok nmX2 2 (by decide) q167 rfl rfl rfl rfl (by decide : 2 < 9) dJ0_init_2_20 (fun H locs hW => ?_)
      have hW : pM G (Z ++ ((a, .inr (2, [.ref a, .null, .null, .null, .null, .int 0, .int 0, .int 0, .int 0])) :: [])) s _ _ := hW
      refine lv_iload hx hb dJ0_init_2_23 (lv_at hl 4 rfl) ?_
      refine lv_if_eq (tgt := 36) hx hb dJ0_init_2_25 (by decide) (fun c_25 => ?_) (fun c_25 => absurd c_25 (by decide))
      refine lv_aload_n hx hb dJ0_init_2_36 rfl (lv_at hl 0 rfl) ?_
      refine lv_null hx hb dJ0_init_2_37 ?_
      refine pz (Z) [] ([]) (Cn := RX2) (T := TX2) (N := 9) (ci := 2) hF hW rfl in_X2 tyX2 tyX2_ok nmX2 1 (by decide) q166 rfl rfl rfl rfl (by decide : 1 < 9) dJ0_init_2_38 (fun H locs hW => ?_)
      have hW : pM G (Z ++ ((a, .inr (2, [.ref a, .null, .null, .null, .null, .int 0, .int 0, .int 0, .int 0])) :: [])) s _ _ := hW
      refine lv_aload_n hx hb dJ0_init_2_41 rfl (lv_at hl 0 rfl) ?_
      refine lv_aload_nN hx hb dJ0_init_2_42 rfl (lv_at hl 1 rfl) ?_
      refine pz (Z) [] ([]) (Cn := RX2) (T := TX2) (N := 9) (ci := 2) hF hW rfl in_X2 tyX2 tyX2_ok nmX2 3 (by decide) q164 rfl rfl rfl rfl (by decide : 3 < 9) dJ0_init_2_43 (fun H locs hW => ?_)
      have hW : pM G (Z ++ ((a, .inr (2, [.ref a, .null, .null, .null, .null, .int 0, .int 0, .int 0, .int 0])) :: [])) s _ _ := hW
      refine lv_aload_n hx hb dJ0_init_2_46 rfl (lv_at hl 0 rfl) ?_
      refine lv_aload_nN hx hb dJ0_init_2_47 rfl (lv_at hl 2 rfl) ?_
      refine pz (Z) [] ([]) (Cn := RX2) (T := TX2) (N := 9) (ci := 2) hF hW rfl in_X2 tyX2 tyX2_ok nmX2 0 (by decide) q165 rfl rfl rfl rfl (by decide : 0 < 9) dJ0_init_2_48 (fun H locs hW => ?_)
      have hW : pM G (Z ++ ((a, .inr (2, [.null, .null, .null, .null, .null, .int 0, .int 0, .int 0, .int 0])) :: [])) s _ _ := hW
      refine lv_iload_n hx hb dJ0_init_2_51 rfl (lv_at hl 3 rfl) ?_
      refine lv_if_ne (tgt := 60) hx hb dJ0_init_2_52 (by decide) (fun c_52 => absurd c_52 (by decide)) (fun c_52 => ?_)
      refine lv_aload_n hx hb dJ0_init_2_55 rfl (lv_at hl 0 rfl) ?_
      refine lv_null hx hb dJ0_init_2_56 ?_
      refine pz (Z) [] ([]) (Cn := RX2) (T := TX2) (N := 9) (ci := 2) hF hW rfl in_X2 tyX2 tyX2_ok nmX2 2 (by decide) q167 rfl rfl rfl rfl (by decide : 2 < 9) dJ0_init_2_57 (fun H locs hW => ?_)
      have hW : pM G (Z ++ ((a, .inr (2, [.null, .null, .null, .null, .null, .int 0, .int 0, .int 0, .int 0])) :: [])) s _ _ := hW
      exact re_v hF hRt hLk hQ (by omega) (by omega) dJ0_init_2_60 () (trivial) hW
    | some zr_3 =>
      refine lv_eqv (y := .ref zr_3) rfl ?_
      refine pz (Z) [] ([]) (Cn := RX2) (T := TX2) (N := 9) (ci := 2) hF hW rfl in_X2 tyX2 tyX2_ok nmX2 2 (by decide) q167 rfl rfl rfl rfl (by decide : 2 < 9) dJ0_init_2_20 (fun H locs hW => ?_)
      have hW : pM G (Z ++ ((a, .inr (2, [.ref a, .null, .ref zr_3, .null, .null, .int 0, .int 0, .int 0, .int 0])) :: [])) s _ _ := hW
      refine lv_iload hx hb dJ0_init_2_23 (lv_at hl 4 rfl) ?_
      refine lv_if_eq (tgt := 36) hx hb dJ0_init_2_25 (by decide) (fun c_25 => ?_) (fun c_25 => absurd c_25 (by decide))
      refine lv_aload_n hx hb dJ0_init_2_36 rfl (lv_at hl 0 rfl) ?_
      refine lv_null hx hb dJ0_init_2_37 ?_
      refine pz (Z) [] ([]) (Cn := RX2) (T := TX2) (N := 9) (ci := 2) hF hW rfl in_X2 tyX2 tyX2_ok nmX2 1 (by decide) q166 rfl rfl rfl rfl (by decide : 1 < 9) dJ0_init_2_38 (fun H locs hW => ?_)
      have hW : pM G (Z ++ ((a, .inr (2, [.ref a, .null, .ref zr_3, .null, .null, .int 0, .int 0, .int 0, .int 0])) :: [])) s _ _ := hW
      refine lv_aload_n hx hb dJ0_init_2_41 rfl (lv_at hl 0 rfl) ?_
      refine lv_aload_nN hx hb dJ0_init_2_42 rfl (lv_at hl 1 rfl) ?_
      refine pz (Z) [] ([]) (Cn := RX2) (T := TX2) (N := 9) (ci := 2) hF hW rfl in_X2 tyX2 tyX2_ok nmX2 3 (by decide) q164 rfl rfl rfl rfl (by decide : 3 < 9) dJ0_init_2_43 (fun H locs hW => ?_)
      have hW : pM G (Z ++ ((a, .inr (2, [.ref a, .null, .ref zr_3, .null, .null, .int 0, .int 0, .int 0, .int 0])) :: [])) s _ _ := hW
      refine lv_aload_n hx hb dJ0_init_2_46 rfl (lv_at hl 0 rfl) ?_
      refine lv_aload_nN hx hb dJ0_init_2_47 rfl (lv_at hl 2 rfl) ?_
      refine pz (Z) [] ([]) (Cn := RX2) (T := TX2) (N := 9) (ci := 2) hF hW rfl in_X2 tyX2 tyX2_ok nmX2 0 (by decide) q165 rfl rfl rfl rfl (by decide : 0 < 9) dJ0_init_2_48 (fun H locs hW => ?_)
      have hW : pM G (Z ++ ((a, .inr (2, [.null, .null, .ref zr_3, .null, .null, .int 0, .int 0, .int 0, .int 0])) :: [])) s _ _ := hW
      refine lv_iload_n hx hb dJ0_init_2_51 rfl (lv_at hl 3 rfl) ?_
      refine lv_if_ne (tgt := 60) hx hb dJ0_init_2_52 (by decide) (fun c_52 => absurd c_52 (by decide)) (fun c_52 => ?_)
      refine lv_aload_n hx hb dJ0_init_2_55 rfl (lv_at hl 0 rfl) ?_
      refine lv_null hx hb dJ0_init_2_56 ?_
      refine pz (Z) [] ([]) (Cn := RX2) (T := TX2) (N := 9) (ci := 2) hF hW rfl in_X2 tyX2 tyX2_ok nmX2 2 (by decide) q167 rfl rfl rfl rfl (by decide : 2 < 9) dJ0_init_2_57 (fun H locs hW => ?_)
      have hW : pM G (Z ++ ((a, .inr (2, [.null, .null, .null, .null, .null, .int 0, .int 0, .int 0, .int 0])) :: [])) s _ _ := hW
      exact re_v hF hRt hLk hQ (by omega) (by omega) dJ0_init_2_60 () (trivial) hW
  | some zr_1 =>
    refine lv_eqv (y := .ref zr_1) rfl ?_
    refine pz (Z) [] ([]) (Cn := RX2) (T := TX2) (N := 9) (ci := 2) hF hW rfl in_X2 tyX2 tyX2_ok nmX2 1 (by decide) q166 rfl rfl rfl rfl (by decide : 1 < 9) dJ0_init_2_13 (fun H locs hW => ?_)
    have hW : pM G (Z ++ ((a, .inr (2, [.ref a, .ref zr_1, .null, .null, .null, .int 0, .int 0, .int 0, .int 0])) :: [])) s _ _ := hW
    refine lv_aload_n hx hb dJ0_init_2_16 rfl (lv_at hl 0 rfl) ?_
    obtain ⟨zr_5, hz_6⟩ := zq hW.2.2.2.2.2.2.2.2.2.2.1
    refine gs hF hW hz_6 q133 dJ0_init_2_17 ?_
    cases zr_5 with
    | none =>
      refine lv_eqv (y := .null) rfl ?_
      refine pz (Z) [] ([]) (Cn := RX2) (T := TX2) (N := 9) (ci := 2) hF hW rfl in_X2 tyX2 tyX2_ok nmX2 2 (by decide) q167 rfl rfl rfl rfl (by decide : 2 < 9) dJ0_init_2_20 (fun H locs hW => ?_)
      have hW : pM G (Z ++ ((a, .inr (2, [.ref a, .ref zr_1, .null, .null, .null, .int 0, .int 0, .int 0, .int 0])) :: [])) s _ _ := hW
      refine lv_iload hx hb dJ0_init_2_23 (lv_at hl 4 rfl) ?_
      refine lv_if_eq (tgt := 36) hx hb dJ0_init_2_25 (by decide) (fun c_25 => ?_) (fun c_25 => absurd c_25 (by decide))
      refine lv_aload_n hx hb dJ0_init_2_36 rfl (lv_at hl 0 rfl) ?_
      refine lv_null hx hb dJ0_init_2_37 ?_
      refine pz (Z) [] ([]) (Cn := RX2) (T := TX2) (N := 9) (ci := 2) hF hW rfl in_X2 tyX2 tyX2_ok nmX2 1 (by decide) q166 rfl rfl rfl rfl (by decide : 1 < 9) dJ0_init_2_38 (fun H locs hW => ?_)
      have hW : pM G (Z ++ ((a, .inr (2, [.ref a, .null, .null, .null, .null, .int 0, .int 0, .int 0, .int 0])) :: [])) s _ _ := hW
      refine lv_aload_n hx hb dJ0_init_2_41 rfl (lv_at hl 0 rfl) ?_
      refine lv_aload_nN hx hb dJ0_init_2_42 rfl (lv_at hl 1 rfl) ?_
      refine pz (Z) [] ([]) (Cn := RX2) (T := TX2) (N := 9) (ci := 2) hF hW rfl in_X2 tyX2 tyX2_ok nmX2 3 (by decide) q164 rfl rfl rfl rfl (by decide : 3 < 9) dJ0_init_2_43 (fun H locs hW => ?_)
      have hW : pM G (Z ++ ((a, .inr (2, [.ref a, .null, .null, .null, .null, .int 0, .int 0, .int 0, .int 0])) :: [])) s _ _ := hW
      refine lv_aload_n hx hb dJ0_init_2_46 rfl (lv_at hl 0 rfl) ?_
      refine lv_aload_nN hx hb dJ0_init_2_47 rfl (lv_at hl 2 rfl) ?_
      refine pz (Z) [] ([]) (Cn := RX2) (T := TX2) (N := 9) (ci := 2) hF hW rfl in_X2 tyX2 tyX2_ok nmX2 0 (by decide) q165 rfl rfl rfl rfl (by decide : 0 < 9) dJ0_init_2_48 (fun H locs hW => ?_)
      have hW : pM G (Z ++ ((a, .inr (2, [.null, .null, .null, .null, .null, .int 0, .int 0, .int 0, .int 0])) :: [])) s _ _ := hW
      refine lv_iload_n hx hb dJ0_init_2_51 rfl (lv_at hl 3 rfl) ?_
      refine lv_if_ne (tgt := 60) hx hb dJ0_init_2_52 (by decide) (fun c_52 => absurd c_52 (by decide)) (fun c_52 => ?_)
      refine lv_aload_n hx hb dJ0_init_2_55 rfl (lv_at hl 0 rfl) ?_
      refine lv_null hx hb dJ0_init_2_56 ?_
      refine pz (Z) [] ([]) (Cn := RX2) (T := TX2) (N := 9) (ci := 2) hF hW rfl in_X2 tyX2 tyX2_ok nmX2 2 (by decide) q167 rfl rfl rfl rfl (by decide : 2 < 9) dJ0_init_2_57 (fun H locs hW => ?_)
      have hW : pM G (Z ++ ((a, .inr (2, [.null, .null, .null, .null, .null, .int 0, .int 0, .int 0, .int 0])) :: [])) s _ _ := hW
      exact re_v hF hRt hLk hQ (by omega) (by omega) dJ0_init_2_60 () (trivial) hW
    | some zr_5 =>
      refine lv_eqv (y := .ref zr_5) rfl ?_
      refine pz (Z) [] ([]) (Cn := RX2) (T := TX2) (N := 9) (ci := 2) hF hW rfl in_X2 tyX2 tyX2_ok nmX2 2 (by decide) q167 rfl rfl rfl rfl (by decide : 2 < 9) dJ0_init_2_20 (fun H locs hW => ?_)
      have hW : pM G (Z ++ ((a, .inr (2, [.ref a, .ref zr_1, .ref zr_5, .null, .null, .int 0, .int 0, .int 0, .int 0])) :: [])) s _ _ := hW
      refine lv_iload hx hb dJ0_init_2_23 (lv_at hl 4 rfl) ?_
      refine lv_if_eq (tgt := 36) hx hb dJ0_init_2_25 (by decide) (fun c_25 => ?_) (fun c_25 => absurd c_25 (by decide))
      refine lv_aload_n hx hb dJ0_init_2_36 rfl (lv_at hl 0 rfl) ?_
      refine lv_null hx hb dJ0_init_2_37 ?_
      refine pz (Z) [] ([]) (Cn := RX2) (T := TX2) (N := 9) (ci := 2) hF hW rfl in_X2 tyX2 tyX2_ok nmX2 1 (by decide) q166 rfl rfl rfl rfl (by decide : 1 < 9) dJ0_init_2_38 (fun H locs hW => ?_)
      have hW : pM G (Z ++ ((a, .inr (2, [.ref a, .null, .ref zr_5, .null, .null, .int 0, .int 0, .int 0, .int 0])) :: [])) s _ _ := hW
      refine lv_aload_n hx hb dJ0_init_2_41 rfl (lv_at hl 0 rfl) ?_
      refine lv_aload_nN hx hb dJ0_init_2_42 rfl (lv_at hl 1 rfl) ?_
      refine pz (Z) [] ([]) (Cn := RX2) (T := TX2) (N := 9) (ci := 2) hF hW rfl in_X2 tyX2 tyX2_ok nmX2 3 (by decide) q164 rfl rfl rfl rfl (by decide : 3 < 9) dJ0_init_2_43 (fun H locs hW => ?_)
      have hW : pM G (Z ++ ((a, .inr (2, [.ref a, .null, .ref zr_5, .null, .null, .int 0, .int 0, .int 0, .int 0])) :: [])) s _ _ := hW
      refine lv_aload_n hx hb dJ0_init_2_46 rfl (lv_at hl 0 rfl) ?_
      refine lv_aload_nN hx hb dJ0_init_2_47 rfl (lv_at hl 2 rfl) ?_
      refine pz (Z) [] ([]) (Cn := RX2) (T := TX2) (N := 9) (ci := 2) hF hW rfl in_X2 tyX2 tyX2_ok nmX2 0 (by decide) q165 rfl rfl rfl rfl (by decide : 0 < 9) dJ0_init_2_48 (fun H locs hW => ?_)
      have hW : pM G (Z ++ ((a, .inr (2, [.null, .null, .ref zr_5, .null, .null, .int 0, .int 0, .int 0, .int 0])) :: [])) s _ _ := hW
      refine lv_iload_n hx hb dJ0_init_2_51 rfl (lv_at hl 3 rfl) ?_
      refine lv_if_ne (tgt := 60) hx hb dJ0_init_2_52 (by decide) (fun c_52 => absurd c_52 (by decide)) (fun c_52 => ?_)
      refine lv_aload_n hx hb dJ0_init_2_55 rfl (lv_at hl 0 rfl) ?_
      refine lv_null hx hb dJ0_init_2_56 ?_
      refine pz (Z) [] ([]) (Cn := RX2) (T := TX2) (N := 9) (ci := 2) hF hW rfl in_X2 tyX2 tyX2_ok nmX2 2 (by decide) q167 rfl rfl rfl rfl (by decide : 2 < 9) dJ0_init_2_57 (fun H locs hW => ?_)
      have hW : pM G (Z ++ ((a, .inr (2, [.null, .null, .null, .null, .null, .int 0, .int 0, .int 0, .int 0])) :: [])) s _ _ := hW
      exact re_v hF hRt hLk hQ (by omega) (by omega) dJ0_init_2_60 () (trivial) hW

set_option maxRecDepth 100000 in
set_option maxHeartbeats 4000000 in
theorem mJ1_X2 (l : Launch) (G : pG) (Z : va_W) (a : Nat)  : Met l yJ1_init (ws_ yJ1_init cJ1_init 5 none) ({ frames := 2, cells := 0, slots := 0, locals := 36 } : Room) (va_Pc [.ref a, .null, .null, .int 0, .int 0] (fun U => pW G (Z ++ ((a, .inr (2, [.null, .null, .null, .null, .null, .int 0, .int 0, .int 0, .int 0])) :: [])) U)) (va_Qv (fun (_ : Unit) => True) (fun (u : Unit) t9 => pW G (Z ++ ((a, .inr (2, [.null, .null, .null, .null, .null, .int 0, .int 0, .int 0, .int 0])) :: [])) t9) (pA G)) 0 0 (pA G) := by
  refine mw (by decide) (Nat.le_of_ble_eq_true rfl) ?_
  intro pp ee R s m below meth c ls Q hF hRt hLk hnm hR hQ hW hl
  have hx := hF.1
  have hb := hF.2.1
  have hts := hF.2.2.2.2
  have hR1 : R.frames = 2 := by rw [hR]
  have hR2 : R.cells = 0 := by rw [hR]
  have hR3 : R.slots = 0 := by rw [hR]
  have hR4 : R.locals = 36 := by rw [hR]
  have hl : lv_has ls 5 [(0, .ref a), (1, .null), (2, .null), (3, .int 0), (4, .int 0)] := hl
  have hW : pM G (Z ++ ((a, .inr (2, [.null, .null, .null, .null, .null, .int 0, .int 0, .int 0, .int 0])) :: [])) s s.heap [] := hW
  refine lv_aload_n hx hb dJ1_init_0 rfl (lv_at hl 0 rfl) ?_
  refine lv_aload_nN hx hb dJ1_init_1 rfl (lv_at hl 1 rfl) ?_
  refine lv_aload_nN hx hb dJ1_init_2 rfl (lv_at hl 2 rfl) ?_
  refine lv_iload_n hx hb dJ1_init_3 rfl (lv_at hl 3 rfl) ?_
  refine lv_iload hx hb dJ1_init_4 (lv_at hl 4 rfl) ?_
  refine cl_v (ru_I (As := [.null, .null, .int 0, .int 0]) (rest := []) hF (mJ0_X2 l G Z a) (cwI 4 hts (lw_meth q156) rfl rfl rfl (hts _ q61) (hts _ q154) (hts _ q155) rfl (by decide +kernel) ⟨lb hR1 rfl, lb hR4 rfl⟩) hW rfl rfl hl.1 rfl (lv_room (Nat.le_of_ble_eq_true rfl)) dJ1_init_6 ⟨by omega, by omega⟩) hW (fun u_ H locs h_ hW => ?_)
  have hW : pM G (Z ++ ((a, .inr (2, [.null, .null, .null, .null, .null, .int 0, .int 0, .int 0, .int 0])) :: [])) s _ _ := hW
  exact re_v hF hRt hLk hQ (by omega) (by omega) dJ1_init_9 () (trivial) hW

set_option maxRecDepth 100000 in
set_option maxHeartbeats 4000000 in
theorem mJ2_X2 (l : Launch) (G : pG) (Z : va_W) (a : Nat)  : Met l yJ2_init (ws_ yJ2_init cJ2_init 5 none) ({ frames := 3, cells := 0, slots := 0, locals := 60 } : Room) (va_Pc [.ref a, .null, .null, .int 0, .int 0] (fun U => pW G (Z ++ ((a, .inr (2, [.null, .null, .null, .null, .null, .int 0, .int 0, .int 0, .int 0])) :: [])) U)) (va_Qv (fun (_ : Unit) => True) (fun (u : Unit) t9 => pW G (Z ++ ((a, .inr (2, [.null, .null, .null, .null, .null, .int 0, .int 0, .int 0, .int 0])) :: [])) t9) (pA G)) 0 0 (pA G) := by
  refine mw (by decide) (Nat.le_of_ble_eq_true rfl) ?_
  intro pp ee R s m below meth c ls Q hF hRt hLk hnm hR hQ hW hl
  have hx := hF.1
  have hb := hF.2.1
  have hts := hF.2.2.2.2
  have hR1 : R.frames = 3 := by rw [hR]
  have hR2 : R.cells = 0 := by rw [hR]
  have hR3 : R.slots = 0 := by rw [hR]
  have hR4 : R.locals = 60 := by rw [hR]
  have hl : lv_has ls 5 [(0, .ref a), (1, .null), (2, .null), (3, .int 0), (4, .int 0)] := hl
  have hW : pM G (Z ++ ((a, .inr (2, [.null, .null, .null, .null, .null, .int 0, .int 0, .int 0, .int 0])) :: [])) s s.heap [] := hW
  refine lv_aload_n hx hb dJ2_init_0 rfl (lv_at hl 0 rfl) ?_
  refine lv_aload_nN hx hb dJ2_init_1 rfl (lv_at hl 1 rfl) ?_
  refine lv_aload_nN hx hb dJ2_init_2 rfl (lv_at hl 2 rfl) ?_
  refine lv_iload_n hx hb dJ2_init_3 rfl (lv_at hl 3 rfl) ?_
  refine lv_iload hx hb dJ2_init_4 (lv_at hl 4 rfl) ?_
  refine cl_v (ru_I (As := [.null, .null, .int 0, .int 0]) (rest := []) hF (mJ1_X2 l G Z a) (cwI 4 hts (lw_meth q153) rfl rfl rfl (hts _ q62) (hts _ q151) (hts _ q152) rfl (by decide +kernel) ⟨lb hR1 rfl, lb hR4 rfl⟩) hW rfl rfl hl.1 rfl (lv_room (Nat.le_of_ble_eq_true rfl)) dJ2_init_6 ⟨by omega, by omega⟩) hW (fun u_ H locs h_ hW => ?_)
  have hW : pM G (Z ++ ((a, .inr (2, [.null, .null, .null, .null, .null, .int 0, .int 0, .int 0, .int 0])) :: [])) s _ _ := hW
  exact re_v hF hRt hLk hQ (by omega) (by omega) dJ2_init_9 () (trivial) hW

set_option maxRecDepth 100000 in
set_option maxHeartbeats 4000000 in
theorem mX2_init (l : Launch) (G : pG) (Z : va_W) (a : Nat)  : Met l yX2_init (ws_ yX2_init cX2_init 1 none) ({ frames := 4, cells := 0, slots := 0, locals := 84 } : Room) (va_Pc [.ref a] (fun U => pW G (Z ++ ((a, .inr (2, [.null, .null, .null, .null, .null, .int 0, .int 0, .int 0, .int 0])) :: [])) U)) (va_Qv (fun (_ : Unit) => True) (fun (u : Unit) t9 => pW G (Z ++ ((a, .inr (2, [.null, .null, .null, .null, .null, .int 0, .int 0, .int 0, .int (-1)])) :: [])) t9) (pA G)) 0 0 (pA G) := by
  refine mw (by decide) (Nat.le_of_ble_eq_true rfl) ?_
  intro pp ee R s m below meth c ls Q hF hRt hLk hnm hR hQ hW hl
  have hx := hF.1
  have hb := hF.2.1
  have hts := hF.2.2.2.2
  have hR1 : R.frames = 4 := by rw [hR]
  have hR2 : R.cells = 0 := by rw [hR]
  have hR3 : R.slots = 0 := by rw [hR]
  have hR4 : R.locals = 84 := by rw [hR]
  have hl : lv_has ls 1 [(0, .ref a)] := hl
  have hW : pM G (Z ++ ((a, .inr (2, [.null, .null, .null, .null, .null, .int 0, .int 0, .int 0, .int 0])) :: [])) s s.heap [] := hW
  refine lv_aload_n hx hb dX2_init_0 rfl (lv_at hl 0 rfl) ?_
  refine lv_null hx hb dX2_init_1 ?_
  refine lv_null hx hb dX2_init_2 ?_
  refine lv_iconst (v := 0) hx hb dX2_init_3 (by decide) ?_
  refine lv_iconst (v := 0) hx hb dX2_init_4 (by decide) ?_
  refine cl_v (ru_I (As := [.null, .null, .int 0, .int 0]) (rest := []) hF (mJ2_X2 l G Z a) (cwI 4 hts (lw_meth q150) rfl rfl rfl (hts _ q63) (hts _ q148) (hts _ q149) rfl (by decide +kernel) ⟨lb hR1 rfl, lb hR4 rfl⟩) hW rfl rfl hl.1 rfl (lv_room (Nat.le_of_ble_eq_true rfl)) dX2_init_5 ⟨by omega, by omega⟩) hW (fun u_ H locs h_ hW => ?_)
  have hW : pM G (Z ++ ((a, .inr (2, [.null, .null, .null, .null, .null, .int 0, .int 0, .int 0, .int 0])) :: [])) s _ _ := hW
  refine lv_aload_n hx hb dX2_init_8 rfl (lv_at hl 0 rfl) ?_
  refine lv_iconst (v := (-1)) hx hb dX2_init_9 (by decide) ?_
  refine pz (Z) [] ([]) (Cn := RX2) (T := TX2) (N := 9) (ci := 2) hF hW rfl in_X2 tyX2 tyX2_ok nmX2 8 (by decide) q161 rfl rfl rfl rfl (by decide : 8 < 9) dX2_init_10 (fun H locs hW => ?_)
  have hW : pM G (Z ++ ((a, .inr (2, [.null, .null, .null, .null, .null, .int 0, .int 0, .int 0, .int (-1)])) :: [])) s _ _ := hW
  exact re_v hF hRt hLk hQ (by omega) (by omega) dX2_init_13 () (trivial) hW

set_option maxRecDepth 100000 in
set_option maxHeartbeats 4000000 in
theorem mJ0_X5 (l : Launch) (G : pG) (Z : va_W) (a : Nat)  : Met l yJ0_init_2 (ws_ yJ0_init_2 cJ0_init_2 5 none) ({ frames := 1, cells := 0, slots := 0, locals := 12 } : Room) (va_Pc [.ref a, .null, .null, .int 0, .int 0] (fun U => pW G (Z ++ ((a, .inr (21, [.null, .null, .null, .null, .null, .int 0, .int 0, .int 0])) :: [])) U)) (va_Qv (fun (_ : Unit) => True) (fun (u : Unit) t9 => pW G (Z ++ ((a, .inr (21, [.null, .null, .null, .null, .null, .int 0, .int 0, .int 0])) :: [])) t9) (pA G)) 0 0 (pA G) := by
  refine mw (by decide) (Nat.le_of_ble_eq_true rfl) ?_
  intro pp ee R s m below meth c ls Q hF hRt hLk hnm hR hQ hW hl
  have hx := hF.1
  have hb := hF.2.1
  have hts := hF.2.2.2.2
  have hR1 : R.frames = 1 := by rw [hR]
  have hR2 : R.cells = 0 := by rw [hR]
  have hR3 : R.slots = 0 := by rw [hR]
  have hR4 : R.locals = 12 := by rw [hR]
  have hl : lv_has ls 5 [(0, .ref a), (1, .null), (2, .null), (3, .int 0), (4, .int 0)] := hl
  have hW : pM G (Z ++ ((a, .inr (21, [.null, .null, .null, .null, .null, .int 0, .int 0, .int 0])) :: [])) s s.heap [] := hW
  refine lv_aload_n hx hb dJ0_init_2_0 rfl (lv_at hl 0 rfl) ?_
  refine W.objInit hx hb hF.2.2.2.1 (hts _ q130) (hts _ q97) (hts _ q98) rfl (by rw [hF.2.2.1]; exact hl.1) rfl dJ0_init_2_1 (lb hR1 rfl) (lb hR4 rfl) ?_
  refine W.eq (g2 := F0 m 4 ls []) rfl ?_
  refine lv_aload_n hx hb dJ0_init_2_4 rfl (lv_at hl 0 rfl) ?_
  refine lv_aload_n hx hb dJ0_init_2_5 rfl (lv_at hl 0 rfl) ?_
  refine pz (Z) [] ([]) (Cn := RX5) (T := TX5) (N := 8) (ci := 21) hF hW rfl in_X5 tyX5 tyX5_ok nmX5 0 (by decide) q165 rfl rfl rfl rfl (by decide : 0 < 8) dJ0_init_2_6 (fun H locs hW => ?_)
  have hW : pM G (Z ++ ((a, .inr (21, [.ref a, .null, .null, .null, .null, .int 0, .int 0, .int 0])) :: [])) s _ _ := hW
  refine lv_aload_n hx hb dJ0_init_2_9 rfl (lv_at hl 0 rfl) ?_
  obtain ⟨zr_1, hz_2⟩ := zq hW.2.2.2.2.2.2.2.2.2.1
  refine gs hF hW hz_2 q131 dJ0_init_2_10 ?_
  cases zr_1 with
  | none =>
    refine lv_eqv (y := .null) rfl ?_
    refine pz (Z) [] ([]) (Cn := RX5) (T := TX5) (N := 8) (ci := 21) hF hW rfl in_X5 tyX5 tyX5_ok nmX5 1 (by decide) q166 rfl rfl rfl rfl (by decide : 1 < 8) dJ0_init_2_13 (fun H locs hW => ?_)
    have hW : pM G (Z ++ ((a, .inr (21, [.ref a, .null, .null, .null, .null, .int 0, .int 0, .int 0])) :: [])) s _ _ := hW
    refine lv_aload_n hx hb dJ0_init_2_16 rfl (lv_at hl 0 rfl) ?_
    obtain ⟨zr_3, hz_4⟩ := zq hW.2.2.2.2.2.2.2.2.2.2.1
    refine gs hF hW hz_4 q133 dJ0_init_2_17 ?_
    cases zr_3 with
    | none =>
      refine lv_eqv (y := .null) rfl ?_
      refine pz (Z) [] ([]) (Cn := RX5) (T := TX5) (N := 8) (ci := 21) hF hW rfl in_X5 tyX5 tyX5_ok nmX5 2 (by decide) q167 rfl rfl rfl rfl (by decide : 2 < 8) dJ0_init_2_20 (fun H locs hW => ?_)
      have hW : pM G (Z ++ ((a, .inr (21, [.ref a, .null, .null, .null, .null, .int 0, .int 0, .int 0])) :: [])) s _ _ := hW
      refine lv_iload hx hb dJ0_init_2_23 (lv_at hl 4 rfl) ?_
      refine lv_if_eq (tgt := 36) hx hb dJ0_init_2_25 (by decide) (fun c_25 => ?_) (fun c_25 => absurd c_25 (by decide))
      refine lv_aload_n hx hb dJ0_init_2_36 rfl (lv_at hl 0 rfl) ?_
      refine lv_null hx hb dJ0_init_2_37 ?_
      refine pz (Z) [] ([]) (Cn := RX5) (T := TX5) (N := 8) (ci := 21) hF hW rfl in_X5 tyX5 tyX5_ok nmX5 1 (by decide) q166 rfl rfl rfl rfl (by decide : 1 < 8) dJ0_init_2_38 (fun H locs hW => ?_)
      have hW : pM G (Z ++ ((a, .inr (21, [.ref a, .null, .null, .null, .null, .int 0, .int 0, .int 0])) :: [])) s _ _ := hW
      refine lv_aload_n hx hb dJ0_init_2_41 rfl (lv_at hl 0 rfl) ?_
      refine lv_aload_nN hx hb dJ0_init_2_42 rfl (lv_at hl 1 rfl) ?_
      refine pz (Z) [] ([]) (Cn := RX5) (T := TX5) (N := 8) (ci := 21) hF hW rfl in_X5 tyX5 tyX5_ok nmX5 3 (by decide) q164 rfl rfl rfl rfl (by decide : 3 < 8) dJ0_init_2_43 (fun H locs hW => ?_)
      have hW : pM G (Z ++ ((a, .inr (21, [.ref a, .null, .null, .null, .null, .int 0, .int 0, .int 0])) :: [])) s _ _ := hW
      refine lv_aload_n hx hb dJ0_init_2_46 rfl (lv_at hl 0 rfl) ?_
      refine lv_aload_nN hx hb dJ0_init_2_47 rfl (lv_at hl 2 rfl) ?_
      refine pz (Z) [] ([]) (Cn := RX5) (T := TX5) (N := 8) (ci := 21) hF hW rfl in_X5 tyX5 tyX5_ok nmX5 0 (by decide) q165 rfl rfl rfl rfl (by decide : 0 < 8) dJ0_init_2_48 (fun H locs hW => ?_)
      have hW : pM G (Z ++ ((a, .inr (21, [.null, .null, .null, .null, .null, .int 0, .int 0, .int 0])) :: [])) s _ _ := hW
      refine lv_iload_n hx hb dJ0_init_2_51 rfl (lv_at hl 3 rfl) ?_
      refine lv_if_ne (tgt := 60) hx hb dJ0_init_2_52 (by decide) (fun c_52 => absurd c_52 (by decide)) (fun c_52 => ?_)
      refine lv_aload_n hx hb dJ0_init_2_55 rfl (lv_at hl 0 rfl) ?_
      refine lv_null hx hb dJ0_init_2_56 ?_
      refine pz (Z) [] ([]) (Cn := RX5) (T := TX5) (N := 8) (ci := 21) hF hW rfl in_X5 tyX5 tyX5_ok nmX5 2 (by decide) q167 rfl rfl rfl rfl (by decide : 2 < 8) dJ0_init_2_57 (fun H locs hW => ?_)
      have hW : pM G (Z ++ ((a, .inr (21, [.null, .null, .null, .null, .null, .int 0, .int 0, .int 0])) :: [])) s _ _ := hW
      exact re_v hF hRt hLk hQ (by omega) (by omega) dJ0_init_2_60 () (trivial) hW
    | some zr_3 =>
      refine lv_eqv (y := .ref zr_3) rfl ?_
      refine pz (Z) [] ([]) (Cn := RX5) (T := TX5) (N := 8) (ci := 21) hF hW rfl in_X5 tyX5 tyX5_ok nmX5 2 (by decide) q167 rfl rfl rfl rfl (by decide : 2 < 8) dJ0_init_2_20 (fun H locs hW => ?_)
      have hW : pM G (Z ++ ((a, .inr (21, [.ref a, .null, .ref zr_3, .null, .null, .int 0, .int 0, .int 0])) :: [])) s _ _ := hW
      refine lv_iload hx hb dJ0_init_2_23 (lv_at hl 4 rfl) ?_
      refine lv_if_eq (tgt := 36) hx hb dJ0_init_2_25 (by decide) (fun c_25 => ?_) (fun c_25 => absurd c_25 (by decide))
      refine lv_aload_n hx hb dJ0_init_2_36 rfl (lv_at hl 0 rfl) ?_
      refine lv_null hx hb dJ0_init_2_37 ?_
      refine pz (Z) [] ([]) (Cn := RX5) (T := TX5) (N := 8) (ci := 21) hF hW rfl in_X5 tyX5 tyX5_ok nmX5 1 (by decide) q166 rfl rfl rfl rfl (by decide : 1 < 8) dJ0_init_2_38 (fun H locs hW => ?_)
      have hW : pM G (Z ++ ((a, .inr (21, [.ref a, .null, .ref zr_3, .null, .null, .int 0, .int 0, .int 0])) :: [])) s _ _ := hW
      refine lv_aload_n hx hb dJ0_init_2_41 rfl (lv_at hl 0 rfl) ?_
      refine lv_aload_nN hx hb dJ0_init_2_42 rfl (lv_at hl 1 rfl) ?_
      refine pz (Z) [] ([]) (Cn := RX5) (T := TX5) (N := 8) (ci := 21) hF hW rfl in_X5 tyX5 tyX5_ok nmX5 3 (by decide) q164 rfl rfl rfl rfl (by decide : 3 < 8) dJ0_init_2_43 (fun H locs hW => ?_)
      have hW : pM G (Z ++ ((a, .inr (21, [.ref a, .null, .ref zr_3, .null, .null, .int 0, .int 0, .int 0])) :: [])) s _ _ := hW
      refine lv_aload_n hx hb dJ0_init_2_46 rfl (lv_at hl 0 rfl) ?_
      refine lv_aload_nN hx hb dJ0_init_2_47 rfl (lv_at hl 2 rfl) ?_
      refine pz (Z) [] ([]) (Cn := RX5) (T := TX5) (N := 8) (ci := 21) hF hW rfl in_X5 tyX5 tyX5_ok nmX5 0 (by decide) q165 rfl rfl rfl rfl (by decide : 0 < 8) dJ0_init_2_48 (fun H locs hW => ?_)
      have hW : pM G (Z ++ ((a, .inr (21, [.null, .null, .ref zr_3, .null, .null, .int 0, .int 0, .int 0])) :: [])) s _ _ := hW
      refine lv_iload_n hx hb dJ0_init_2_51 rfl (lv_at hl 3 rfl) ?_
      refine lv_if_ne (tgt := 60) hx hb dJ0_init_2_52 (by decide) (fun c_52 => absurd c_52 (by decide)) (fun c_52 => ?_)
      refine lv_aload_n hx hb dJ0_init_2_55 rfl (lv_at hl 0 rfl) ?_
      refine lv_null hx hb dJ0_init_2_56 ?_
      refine pz (Z) [] ([]) (Cn := RX5) (T := TX5) (N := 8) (ci := 21) hF hW rfl in_X5 tyX5 tyX5_ok nmX5 2 (by decide) q167 rfl rfl rfl rfl (by decide : 2 < 8) dJ0_init_2_57 (fun H locs hW => ?_)
      have hW : pM G (Z ++ ((a, .inr (21, [.null, .null, .null, .null, .null, .int 0, .int 0, .int 0])) :: [])) s _ _ := hW
      exact re_v hF hRt hLk hQ (by omega) (by omega) dJ0_init_2_60 () (trivial) hW
  | some zr_1 =>
    refine lv_eqv (y := .ref zr_1) rfl ?_
    refine pz (Z) [] ([]) (Cn := RX5) (T := TX5) (N := 8) (ci := 21) hF hW rfl in_X5 tyX5 tyX5_ok nmX5 1 (by decide) q166 rfl rfl rfl rfl (by decide : 1 < 8) dJ0_init_2_13 (fun H locs hW => ?_)
    have hW : pM G (Z ++ ((a, .inr (21, [.ref a, .ref zr_1, .null, .null, .null, .int 0, .int 0, .int 0])) :: [])) s _ _ := hW
    refine lv_aload_n hx hb dJ0_init_2_16 rfl (lv_at hl 0 rfl) ?_
    obtain ⟨zr_5, hz_6⟩ := zq hW.2.2.2.2.2.2.2.2.2.2.1
    refine gs hF hW hz_6 q133 dJ0_init_2_17 ?_
    cases zr_5 with
    | none =>
      refine lv_eqv (y := .null) rfl ?_
      refine pz (Z) [] ([]) (Cn := RX5) (T := TX5) (N := 8) (ci := 21) hF hW rfl in_X5 tyX5 tyX5_ok nmX5 2 (by decide) q167 rfl rfl rfl rfl (by decide : 2 < 8) dJ0_init_2_20 (fun H locs hW => ?_)
      have hW : pM G (Z ++ ((a, .inr (21, [.ref a, .ref zr_1, .null, .null, .null, .int 0, .int 0, .int 0])) :: [])) s _ _ := hW
      refine lv_iload hx hb dJ0_init_2_23 (lv_at hl 4 rfl) ?_
      refine lv_if_eq (tgt := 36) hx hb dJ0_init_2_25 (by decide) (fun c_25 => ?_) (fun c_25 => absurd c_25 (by decide))
      refine lv_aload_n hx hb dJ0_init_2_36 rfl (lv_at hl 0 rfl) ?_
      refine lv_null hx hb dJ0_init_2_37 ?_
      refine pz (Z) [] ([]) (Cn := RX5) (T := TX5) (N := 8) (ci := 21) hF hW rfl in_X5 tyX5 tyX5_ok nmX5 1 (by decide) q166 rfl rfl rfl rfl (by decide : 1 < 8) dJ0_init_2_38 (fun H locs hW => ?_)
      have hW : pM G (Z ++ ((a, .inr (21, [.ref a, .null, .null, .null, .null, .int 0, .int 0, .int 0])) :: [])) s _ _ := hW
      refine lv_aload_n hx hb dJ0_init_2_41 rfl (lv_at hl 0 rfl) ?_
      refine lv_aload_nN hx hb dJ0_init_2_42 rfl (lv_at hl 1 rfl) ?_
      refine pz (Z) [] ([]) (Cn := RX5) (T := TX5) (N := 8) (ci := 21) hF hW rfl in_X5 tyX5 tyX5_ok nmX5 3 (by decide) q164 rfl rfl rfl rfl (by decide : 3 < 8) dJ0_init_2_43 (fun H locs hW => ?_)
      have hW : pM G (Z ++ ((a, .inr (21, [.ref a, .null, .null, .null, .null, .int 0, .int 0, .int 0])) :: [])) s _ _ := hW
      refine lv_aload_n hx hb dJ0_init_2_46 rfl (lv_at hl 0 rfl) ?_
      refine lv_aload_nN hx hb dJ0_init_2_47 rfl (lv_at hl 2 rfl) ?_
      refine pz (Z) [] ([]) (Cn := RX5) (T := TX5) (N := 8) (ci := 21) hF hW rfl in_X5 tyX5 tyX5_ok nmX5 0 (by decide) q165 rfl rfl rfl rfl (by decide : 0 < 8) dJ0_init_2_48 (fun H locs hW => ?_)
      have hW : pM G (Z ++ ((a, .inr (21, [.null, .null, .null, .null, .null, .int 0, .int 0, .int 0])) :: [])) s _ _ := hW
      refine lv_iload_n hx hb dJ0_init_2_51 rfl (lv_at hl 3 rfl) ?_
      refine lv_if_ne (tgt := 60) hx hb dJ0_init_2_52 (by decide) (fun c_52 => absurd c_52 (by decide)) (fun c_52 => ?_)
      refine lv_aload_n hx hb dJ0_init_2_55 rfl (lv_at hl 0 rfl) ?_
      refine lv_null hx hb dJ0_init_2_56 ?_
      refine pz (Z) [] ([]) (Cn := RX5) (T := TX5) (N := 8) (ci := 21) hF hW rfl in_X5 tyX5 tyX5_ok nmX5 2 (by decide) q167 rfl rfl rfl rfl (by decide : 2 < 8) dJ0_init_2_57 (fun H locs hW => ?_)
      have hW : pM G (Z ++ ((a, .inr (21, [.null, .null, .null, .null, .null, .int 0, .int 0, .int 0])) :: [])) s _ _ := hW
      exact re_v hF hRt hLk hQ (by omega) (by omega) dJ0_init_2_60 () (trivial) hW
    | some zr_5 =>
      refine lv_eqv (y := .ref zr_5) rfl ?_
      refine pz (Z) [] ([]) (Cn := RX5) (T := TX5) (N := 8) (ci := 21) hF hW rfl in_X5 tyX5 tyX5_ok nmX5 2 (by decide) q167 rfl rfl rfl rfl (by decide : 2 < 8) dJ0_init_2_20 (fun H locs hW => ?_)
      have hW : pM G (Z ++ ((a, .inr (21, [.ref a, .ref zr_1, .ref zr_5, .null, .null, .int 0, .int 0, .int 0])) :: [])) s _ _ := hW
      refine lv_iload hx hb dJ0_init_2_23 (lv_at hl 4 rfl) ?_
      refine lv_if_eq (tgt := 36) hx hb dJ0_init_2_25 (by decide) (fun c_25 => ?_) (fun c_25 => absurd c_25 (by decide))
      refine lv_aload_n hx hb dJ0_init_2_36 rfl (lv_at hl 0 rfl) ?_
      refine lv_null hx hb dJ0_init_2_37 ?_
      refine pz (Z) [] ([]) (Cn := RX5) (T := TX5) (N := 8) (ci := 21) hF hW rfl in_X5 tyX5 tyX5_ok nmX5 1 (by decide) q166 rfl rfl rfl rfl (by decide : 1 < 8) dJ0_init_2_38 (fun H locs hW => ?_)
      have hW : pM G (Z ++ ((a, .inr (21, [.ref a, .null, .ref zr_5, .null, .null, .int 0, .int 0, .int 0])) :: [])) s _ _ := hW
      refine lv_aload_n hx hb dJ0_init_2_41 rfl (lv_at hl 0 rfl) ?_
      refine lv_aload_nN hx hb dJ0_init_2_42 rfl (lv_at hl 1 rfl) ?_
      refine pz (Z) [] ([]) (Cn := RX5) (T := TX5) (N := 8) (ci := 21) hF hW rfl in_X5 tyX5 tyX5_ok nmX5 3 (by decide) q164 rfl rfl rfl rfl (by decide : 3 < 8) dJ0_init_2_43 (fun H locs hW => ?_)
      have hW : pM G (Z ++ ((a, .inr (21, [.ref a, .null, .ref zr_5, .null, .null, .int 0, .int 0, .int 0])) :: [])) s _ _ := hW
      refine lv_aload_n hx hb dJ0_init_2_46 rfl (lv_at hl 0 rfl) ?_
      refine lv_aload_nN hx hb dJ0_init_2_47 rfl (lv_at hl 2 rfl) ?_
      refine pz (Z) [] ([]) (Cn := RX5) (T := TX5) (N := 8) (ci := 21) hF hW rfl in_X5 tyX5 tyX5_ok nmX5 0 (by decide) q165 rfl rfl rfl rfl (by decide : 0 < 8) dJ0_init_2_48 (fun H locs hW => ?_)
      have hW : pM G (Z ++ ((a, .inr (21, [.null, .null, .ref zr_5, .null, .null, .int 0, .int 0, .int 0])) :: [])) s _ _ := hW
      refine lv_iload_n hx hb dJ0_init_2_51 rfl (lv_at hl 3 rfl) ?_
      refine lv_if_ne (tgt := 60) hx hb dJ0_init_2_52 (by decide) (fun c_52 => absurd c_52 (by decide)) (fun c_52 => ?_)
      refine lv_aload_n hx hb dJ0_init_2_55 rfl (lv_at hl 0 rfl) ?_
      refine lv_null hx hb dJ0_init_2_56 ?_
      refine pz (Z) [] ([]) (Cn := RX5) (T := TX5) (N := 8) (ci := 21) hF hW rfl in_X5 tyX5 tyX5_ok nmX5 2 (by decide) q167 rfl rfl rfl rfl (by decide : 2 < 8) dJ0_init_2_57 (fun H locs hW => ?_)
      have hW : pM G (Z ++ ((a, .inr (21, [.null, .null, .null, .null, .null, .int 0, .int 0, .int 0])) :: [])) s _ _ := hW
      exact re_v hF hRt hLk hQ (by omega) (by omega) dJ0_init_2_60 () (trivial) hW

set_option maxRecDepth 100000 in
set_option maxHeartbeats 4000000 in
theorem mJ1_X5 (l : Launch) (G : pG) (Z : va_W) (a : Nat)  : Met l yJ1_init (ws_ yJ1_init cJ1_init 5 none) ({ frames := 2, cells := 0, slots := 0, locals := 36 } : Room) (va_Pc [.ref a, .null, .null, .int 0, .int 0] (fun U => pW G (Z ++ ((a, .inr (21, [.null, .null, .null, .null, .null, .int 0, .int 0, .int 0])) :: [])) U)) (va_Qv (fun (_ : Unit) => True) (fun (u : Unit) t9 => pW G (Z ++ ((a, .inr (21, [.null, .null, .null, .null, .null, .int 0, .int 0, .int 0])) :: [])) t9) (pA G)) 0 0 (pA G) := by
  refine mw (by decide) (Nat.le_of_ble_eq_true rfl) ?_
  intro pp ee R s m below meth c ls Q hF hRt hLk hnm hR hQ hW hl
  have hx := hF.1
  have hb := hF.2.1
  have hts := hF.2.2.2.2
  have hR1 : R.frames = 2 := by rw [hR]
  have hR2 : R.cells = 0 := by rw [hR]
  have hR3 : R.slots = 0 := by rw [hR]
  have hR4 : R.locals = 36 := by rw [hR]
  have hl : lv_has ls 5 [(0, .ref a), (1, .null), (2, .null), (3, .int 0), (4, .int 0)] := hl
  have hW : pM G (Z ++ ((a, .inr (21, [.null, .null, .null, .null, .null, .int 0, .int 0, .int 0])) :: [])) s s.heap [] := hW
  refine lv_aload_n hx hb dJ1_init_0 rfl (lv_at hl 0 rfl) ?_
  refine lv_aload_nN hx hb dJ1_init_1 rfl (lv_at hl 1 rfl) ?_
  refine lv_aload_nN hx hb dJ1_init_2 rfl (lv_at hl 2 rfl) ?_
  refine lv_iload_n hx hb dJ1_init_3 rfl (lv_at hl 3 rfl) ?_
  refine lv_iload hx hb dJ1_init_4 (lv_at hl 4 rfl) ?_
  refine cl_v (ru_I (As := [.null, .null, .int 0, .int 0]) (rest := []) hF (mJ0_X5 l G Z a) (cwI 4 hts (lw_meth q156) rfl rfl rfl (hts _ q61) (hts _ q154) (hts _ q155) rfl (by decide +kernel) ⟨lb hR1 rfl, lb hR4 rfl⟩) hW rfl rfl hl.1 rfl (lv_room (Nat.le_of_ble_eq_true rfl)) dJ1_init_6 ⟨by omega, by omega⟩) hW (fun u_ H locs h_ hW => ?_)
  have hW : pM G (Z ++ ((a, .inr (21, [.null, .null, .null, .null, .null, .int 0, .int 0, .int 0])) :: [])) s _ _ := hW
  exact re_v hF hRt hLk hQ (by omega) (by omega) dJ1_init_9 () (trivial) hW

set_option maxRecDepth 100000 in
set_option maxHeartbeats 4000000 in
theorem mJ2_X5 (l : Launch) (G : pG) (Z : va_W) (a : Nat)  : Met l yJ2_init (ws_ yJ2_init cJ2_init 5 none) ({ frames := 3, cells := 0, slots := 0, locals := 60 } : Room) (va_Pc [.ref a, .null, .null, .int 0, .int 0] (fun U => pW G (Z ++ ((a, .inr (21, [.null, .null, .null, .null, .null, .int 0, .int 0, .int 0])) :: [])) U)) (va_Qv (fun (_ : Unit) => True) (fun (u : Unit) t9 => pW G (Z ++ ((a, .inr (21, [.null, .null, .null, .null, .null, .int 0, .int 0, .int 0])) :: [])) t9) (pA G)) 0 0 (pA G) := by
  refine mw (by decide) (Nat.le_of_ble_eq_true rfl) ?_
  intro pp ee R s m below meth c ls Q hF hRt hLk hnm hR hQ hW hl
  have hx := hF.1
  have hb := hF.2.1
  have hts := hF.2.2.2.2
  have hR1 : R.frames = 3 := by rw [hR]
  have hR2 : R.cells = 0 := by rw [hR]
  have hR3 : R.slots = 0 := by rw [hR]
  have hR4 : R.locals = 60 := by rw [hR]
  have hl : lv_has ls 5 [(0, .ref a), (1, .null), (2, .null), (3, .int 0), (4, .int 0)] := hl
  have hW : pM G (Z ++ ((a, .inr (21, [.null, .null, .null, .null, .null, .int 0, .int 0, .int 0])) :: [])) s s.heap [] := hW
  refine lv_aload_n hx hb dJ2_init_0 rfl (lv_at hl 0 rfl) ?_
  refine lv_aload_nN hx hb dJ2_init_1 rfl (lv_at hl 1 rfl) ?_
  refine lv_aload_nN hx hb dJ2_init_2 rfl (lv_at hl 2 rfl) ?_
  refine lv_iload_n hx hb dJ2_init_3 rfl (lv_at hl 3 rfl) ?_
  refine lv_iload hx hb dJ2_init_4 (lv_at hl 4 rfl) ?_
  refine cl_v (ru_I (As := [.null, .null, .int 0, .int 0]) (rest := []) hF (mJ1_X5 l G Z a) (cwI 4 hts (lw_meth q153) rfl rfl rfl (hts _ q62) (hts _ q151) (hts _ q152) rfl (by decide +kernel) ⟨lb hR1 rfl, lb hR4 rfl⟩) hW rfl rfl hl.1 rfl (lv_room (Nat.le_of_ble_eq_true rfl)) dJ2_init_6 ⟨by omega, by omega⟩) hW (fun u_ H locs h_ hW => ?_)
  have hW : pM G (Z ++ ((a, .inr (21, [.null, .null, .null, .null, .null, .int 0, .int 0, .int 0])) :: [])) s _ _ := hW
  exact re_v hF hRt hLk hQ (by omega) (by omega) dJ2_init_9 () (trivial) hW

set_option maxRecDepth 100000 in
set_option maxHeartbeats 4000000 in
theorem mX5_init (l : Launch) (G : pG) (Z : va_W) (a : Nat)  : Met l yX5_init (ws_ yX5_init cX5_init 1 none) ({ frames := 4, cells := 0, slots := 0, locals := 84 } : Room) (va_Pc [.ref a] (fun U => pW G (Z ++ ((a, .inr (21, [.null, .null, .null, .null, .null, .int 0, .int 0, .int 0])) :: [])) U)) (va_Qv (fun (_ : Unit) => True) (fun (u : Unit) t9 => pW G (Z ++ ((a, .inr (21, [.null, .null, .null, .null, .null, .int 0, .int 0, .int 0])) :: [])) t9) (pA G)) 0 0 (pA G) := by
  refine mw (by decide) (Nat.le_of_ble_eq_true rfl) ?_
  intro pp ee R s m below meth c ls Q hF hRt hLk hnm hR hQ hW hl
  have hx := hF.1
  have hb := hF.2.1
  have hts := hF.2.2.2.2
  have hR1 : R.frames = 4 := by rw [hR]
  have hR2 : R.cells = 0 := by rw [hR]
  have hR3 : R.slots = 0 := by rw [hR]
  have hR4 : R.locals = 84 := by rw [hR]
  have hl : lv_has ls 1 [(0, .ref a)] := hl
  have hW : pM G (Z ++ ((a, .inr (21, [.null, .null, .null, .null, .null, .int 0, .int 0, .int 0])) :: [])) s s.heap [] := hW
  refine lv_aload_n hx hb dX5_init_0 rfl (lv_at hl 0 rfl) ?_
  refine lv_null hx hb dX5_init_1 ?_
  refine lv_null hx hb dX5_init_2 ?_
  refine lv_iconst (v := 0) hx hb dX5_init_3 (by decide) ?_
  refine lv_iconst (v := 0) hx hb dX5_init_4 (by decide) ?_
  refine cl_v (ru_I (As := [.null, .null, .int 0, .int 0]) (rest := []) hF (mJ2_X5 l G Z a) (cwI 4 hts (lw_meth q150) rfl rfl rfl (hts _ q63) (hts _ q1051) (hts _ q149) rfl (by decide +kernel) ⟨lb hR1 rfl, lb hR4 rfl⟩) hW rfl rfl hl.1 rfl (lv_room (Nat.le_of_ble_eq_true rfl)) dX5_init_5 ⟨by omega, by omega⟩) hW (fun u_ H locs h_ hW => ?_)
  have hW : pM G (Z ++ ((a, .inr (21, [.null, .null, .null, .null, .null, .int 0, .int 0, .int 0])) :: [])) s _ _ := hW
  exact re_v hF hRt hLk hQ (by omega) (by omega) dX5_init_8 () (trivial) hW

set_option maxRecDepth 100000 in
set_option maxHeartbeats 4000000 in
theorem mX11_isSame (l : Launch) (G : pG) (ws : va_W) (a b : Nat) (u0 u1 u2 v0 v1 v2 : Int32) (ha : (a, .inr (5, [.int u0, .int u1, .int u2])) ∈ ws) (hb0 : (b, .inr (5, [.int v0, .int v1, .int v2])) ∈ ws) : Met l yX11_isSame (ws_ yX11_isSame cX11_isSame 2 (some .boolean)) ({ frames := 0, cells := 0, slots := 0, locals := 0 } : Room) (va_Pc [.ref a, .ref b] (fun U => pW G (ws) U)) (va_Qi (fun r (_ : Unit) => (r = 1 ∧ (u0 = v0 ∧ u1 = v1 ∧ u2 = v2)) ∨ (r = 0 ∧ ¬ (u0 = v0 ∧ u1 = v1 ∧ u2 = v2))) (fun (u : Unit) t9 => pW G (ws) t9) (pA G)) 0 0 (pA G) := by
  refine mw (by decide) (Nat.le_of_ble_eq_true rfl) ?_
  intro pp ee R s m below meth c ls Q hF hRt hLk hnm hR hQ hW hl
  have hx := hF.1
  have hb := hF.2.1
  have hts := hF.2.2.2.2
  have hR1 : R.frames = 0 := by rw [hR]
  have hR2 : R.cells = 0 := by rw [hR]
  have hR3 : R.slots = 0 := by rw [hR]
  have hR4 : R.locals = 0 := by rw [hR]
  have hl : lv_has ls 2 [(0, .ref a), (1, .ref b)] := hl
  have hW : pM G (ws) s s.heap [] := hW
  refine lv_aload_n hx hb dX11_isSame_0 rfl (lv_at hl 0 rfl) ?_
  refine gt hF hW ha (ci := 5) rfl in_X11 0 (by decide) q620 rfl (v := .int u0) rfl dX11_isSame_1 ?_
  refine lv_aload_n hx hb dX11_isSame_4 rfl (lv_at hl 1 rfl) ?_
  refine gt hF hW hb0 (ci := 5) rfl in_X11 0 (by decide) q620 rfl (v := .int v0) rfl dX11_isSame_5 ?_
  refine lv_icmp_ne (tgt := 37) hx hb dX11_isSame_8 (by decide) (fun c_8 => ?_) (fun c_8 => ?_)
  · refine lv_iconst (v := 0) hx hb dX11_isSame_37 (by decide) ?_
    exact re_z hF hRt hLk hQ (by omega) (by omega) (by decide) dX11_isSame_38 () (Or.inr ⟨rfl, fun z => c_8 z.1⟩) hW
  · refine lv_aload_n hx hb dX11_isSame_11 rfl (lv_at hl 0 rfl) ?_
    refine gt hF hW ha (ci := 5) rfl in_X11 1 (by decide) q623 rfl (v := .int u1) rfl dX11_isSame_12 ?_
    refine lv_aload_n hx hb dX11_isSame_15 rfl (lv_at hl 1 rfl) ?_
    refine gt hF hW hb0 (ci := 5) rfl in_X11 1 (by decide) q623 rfl (v := .int v1) rfl dX11_isSame_16 ?_
    refine lv_icmp_ne (tgt := 37) hx hb dX11_isSame_19 (by decide) (fun c_19 => ?_) (fun c_19 => ?_)
    · refine lv_iconst (v := 0) hx hb dX11_isSame_37 (by decide) ?_
      exact re_z hF hRt hLk hQ (by omega) (by omega) (by decide) dX11_isSame_38 () (Or.inr ⟨rfl, fun z => c_19 z.2.1⟩) hW
    · refine lv_aload_n hx hb dX11_isSame_22 rfl (lv_at hl 0 rfl) ?_
      refine gt hF hW ha (ci := 5) rfl in_X11 2 (by decide) q626 rfl (v := .int u2) rfl dX11_isSame_23 ?_
      refine lv_aload_n hx hb dX11_isSame_26 rfl (lv_at hl 1 rfl) ?_
      refine gt hF hW hb0 (ci := 5) rfl in_X11 2 (by decide) q626 rfl (v := .int v2) rfl dX11_isSame_27 ?_
      refine lv_icmp_ne (tgt := 37) hx hb dX11_isSame_30 (by decide) (fun c_30 => ?_) (fun c_30 => ?_)
      · refine lv_iconst (v := 0) hx hb dX11_isSame_37 (by decide) ?_
        exact re_z hF hRt hLk hQ (by omega) (by omega) (by decide) dX11_isSame_38 () (Or.inr ⟨rfl, fun z => c_30 z.2.2⟩) hW
      · refine lv_iconst (v := 1) hx hb dX11_isSame_33 (by decide) ?_
        refine lv_goto (tgt := 38) hx hb dX11_isSame_34 (by decide) ?_
        exact re_z hF hRt hLk hQ (by omega) (by omega) (by decide) dX11_isSame_38 () (Or.inl ⟨rfl, c_8, c_19, c_30⟩) hW

set_option maxRecDepth 100000 in
set_option maxHeartbeats 4000000 in
theorem mX12_isKnown_X12 (l : Launch) (G : pG) (ws : va_W) (a t0 : Nat) (kn op day : Int32) (ha : (a, .inr (6, [.ref t0, .int kn])) ∈ ws) : Met l yX12_isKnown (ws_ yX12_isKnown cX12_isKnown 2 (some .boolean)) ({ frames := 0, cells := 0, slots := 0, locals := 0 } : Room) (va_Pc [.ref a, .int day] (fun U => pW G (ws) U)) (va_Qi (fun r (_ : Unit) => (r = 1 ∧ kn ≤ day) ∨ (r = 0 ∧ ¬ kn ≤ day)) (fun (u : Unit) t9 => pW G (ws) t9) (pA G)) 0 0 (pA G) := by
  refine mw (by decide) (Nat.le_of_ble_eq_true rfl) ?_
  intro pp ee R s m below meth c ls Q hF hRt hLk hnm hR hQ hW hl
  have hx := hF.1
  have hb := hF.2.1
  have hts := hF.2.2.2.2
  have hR1 : R.frames = 0 := by rw [hR]
  have hR2 : R.cells = 0 := by rw [hR]
  have hR3 : R.slots = 0 := by rw [hR]
  have hR4 : R.locals = 0 := by rw [hR]
  have hl : lv_has ls 2 [(0, .ref a), (1, .int day)] := hl
  have hW : pM G (ws) s s.heap [] := hW
  refine lv_aload_n hx hb dX12_isKnown_0 rfl (lv_at hl 0 rfl) ?_
  refine gt hF hW ha (ci := 6) rfl in_X12 1 (by decide) q663 rfl (v := .int kn) rfl dX12_isKnown_1 ?_
  refine lv_iload_n hx hb dX12_isKnown_4 rfl (lv_at hl 1 rfl) ?_
  refine lv_icmp_gt (tgt := 12) hx hb dX12_isKnown_5 (by decide) (fun c_5 => ?_) (fun c_5 => ?_)
  · refine lv_iconst (v := 0) hx hb dX12_isKnown_12 (by decide) ?_
    exact re_z hF hRt hLk hQ (by omega) (by omega) (by decide) dX12_isKnown_13 () (Or.inr ⟨rfl, Int32.not_le.mpr c_5⟩) hW
  · refine lv_iconst (v := 1) hx hb dX12_isKnown_8 (by decide) ?_
    refine lv_goto (tgt := 13) hx hb dX12_isKnown_9 (by decide) ?_
    exact re_z hF hRt hLk hQ (by omega) (by omega) (by decide) dX12_isKnown_13 () (Or.inl ⟨rfl, Int32.not_lt.mp c_5⟩) hW

set_option maxRecDepth 100000 in
set_option maxHeartbeats 4000000 in
theorem mX12_isKnown_X13 (l : Launch) (G : pG) (ws : va_W) (a t0 : Nat) (kn op day : Int32) (ha : (a, .inr (7, [.ref t0, .int kn, .int op])) ∈ ws) : Met l yX12_isKnown (ws_ yX12_isKnown cX12_isKnown 2 (some .boolean)) ({ frames := 0, cells := 0, slots := 0, locals := 0 } : Room) (va_Pc [.ref a, .int day] (fun U => pW G (ws) U)) (va_Qi (fun r (_ : Unit) => (r = 1 ∧ kn ≤ day) ∨ (r = 0 ∧ ¬ kn ≤ day)) (fun (u : Unit) t9 => pW G (ws) t9) (pA G)) 0 0 (pA G) := by
  refine mw (by decide) (Nat.le_of_ble_eq_true rfl) ?_
  intro pp ee R s m below meth c ls Q hF hRt hLk hnm hR hQ hW hl
  have hx := hF.1
  have hb := hF.2.1
  have hts := hF.2.2.2.2
  have hR1 : R.frames = 0 := by rw [hR]
  have hR2 : R.cells = 0 := by rw [hR]
  have hR3 : R.slots = 0 := by rw [hR]
  have hR4 : R.locals = 0 := by rw [hR]
  have hl : lv_has ls 2 [(0, .ref a), (1, .int day)] := hl
  have hW : pM G (ws) s s.heap [] := hW
  refine lv_aload_n hx hb dX12_isKnown_0 rfl (lv_at hl 0 rfl) ?_
  refine gt hF hW ha (ci := 7) rfl in_X13 1 (by decide) q663 rfl (v := .int kn) rfl dX12_isKnown_1 ?_
  refine lv_iload_n hx hb dX12_isKnown_4 rfl (lv_at hl 1 rfl) ?_
  refine lv_icmp_gt (tgt := 12) hx hb dX12_isKnown_5 (by decide) (fun c_5 => ?_) (fun c_5 => ?_)
  · refine lv_iconst (v := 0) hx hb dX12_isKnown_12 (by decide) ?_
    exact re_z hF hRt hLk hQ (by omega) (by omega) (by decide) dX12_isKnown_13 () (Or.inr ⟨rfl, Int32.not_le.mpr c_5⟩) hW
  · refine lv_iconst (v := 1) hx hb dX12_isKnown_8 (by decide) ?_
    refine lv_goto (tgt := 13) hx hb dX12_isKnown_9 (by decide) ?_
    exact re_z hF hRt hLk hQ (by omega) (by omega) (by decide) dX12_isKnown_13 () (Or.inl ⟨rfl, Int32.not_lt.mp c_5⟩) hW

def endsV (dr filed kn : Int32) : Int32 := if dr ≠ -1 ∧ dr ≤ kn then (if filed + 7300 < dr then filed + 7300 else dr) else filed + 7300
set_option maxRecDepth 100000 in
set_option maxHeartbeats 4000000 in
theorem mX18_ends (l : Launch) (G : pG) (ws : va_W) (a tx : Nat) (on : Option Nat) (nu kn fi gr dr : Int32) (filed day : Int32) (ha : (a, .inr (9, [.int nu, .int kn, .int fi, va_rf on, .ref tx, .int gr, .int dr])) ∈ ws) : Met l yX18_ends (ws_ yX18_ends cX18_ends 3 (some .int)) ({ frames := 1, cells := 0, slots := 0, locals := 21 } : Room) (va_Pc [.ref a, .int filed, .int day] (fun U => pW G (ws) U)) (va_Qi (fun r (_ : Unit) => r = endsV dr filed day) (fun (u : Unit) t9 => pW G (ws) t9) (pA G)) 0 0 (pA G) := by
  refine mw (by decide) (Nat.le_of_ble_eq_true rfl) ?_
  intro pp ee R s m below meth c ls Q hF hRt hLk hnm hR hQ hW hl
  have hx := hF.1
  have hb := hF.2.1
  have hts := hF.2.2.2.2
  have hR1 : R.frames = 1 := by rw [hR]
  have hR2 : R.cells = 0 := by rw [hR]
  have hR3 : R.slots = 0 := by rw [hR]
  have hR4 : R.locals = 21 := by rw [hR]
  have hl : lv_has ls 3 [(0, .ref a), (1, .int filed), (2, .int day)] := hl
  have hW : pM G (ws) s s.heap [] := hW
  refine lv_aload_n hx hb dX18_ends_0 rfl (lv_at hl 0 rfl) ?_
  refine gt hF hW ha (ci := 9) rfl in_X18 6 (by decide) q787 rfl (v := .int dr) rfl dX18_ends_1 ?_
  refine lv_iconst (v := (-1)) hx hb dX18_ends_4 (by decide) ?_
  refine lv_icmp_eq (tgt := 31) hx hb dX18_ends_5 (by decide) (fun c_5 => ?_) (fun c_5 => ?_)
  · refine lv_iload_n hx hb dX18_ends_31 rfl (lv_at hl 1 rfl) ?_
    refine lv_sipush (v := 7300) hx hb dX18_ends_32 (by decide) ?_
    refine lv_iadd hx hb dX18_ends_35 ?_
    exact re_i hF hRt hLk hQ (by omega) (by omega) dX18_ends_36 () (by unfold endsV; rw [if_neg (fun z => z.1 c_5)]) hW
  · refine lv_aload_n hx hb dX18_ends_8 rfl (lv_at hl 0 rfl) ?_
    refine gt hF hW ha (ci := 9) rfl in_X18 6 (by decide) q787 rfl (v := .int dr) rfl dX18_ends_9 ?_
    refine lv_iload_n hx hb dX18_ends_12 rfl (lv_at hl 2 rfl) ?_
    refine lv_icmp_gt (tgt := 31) hx hb dX18_ends_13 (by decide) (fun c_13 => ?_) (fun c_13 => ?_)
    · refine lv_iload_n hx hb dX18_ends_31 rfl (lv_at hl 1 rfl) ?_
      refine lv_sipush (v := 7300) hx hb dX18_ends_32 (by decide) ?_
      refine lv_iadd hx hb dX18_ends_35 ?_
      exact re_i hF hRt hLk hQ (by omega) (by omega) dX18_ends_36 () (by unfold endsV; rw [if_neg (fun z => absurd z.2 (Int32.not_le.mpr c_13))]) hW
    · refine lv_aload_n hx hb dX18_ends_16 rfl (lv_at hl 0 rfl) ?_
      refine gt hF hW ha (ci := 9) rfl in_X18 6 (by decide) q787 rfl (v := .int dr) rfl dX18_ends_17 ?_
      refine lv_iload_n hx hb dX18_ends_20 rfl (lv_at hl 1 rfl) ?_
      refine lv_sipush (v := 7300) hx hb dX18_ends_21 (by decide) ?_
      refine lv_iadd hx hb dX18_ends_24 ?_
      refine va_mmin hx hb (hF.2.2.1.trans hl.1.symm) hF.2.2.2.1 (hts _ q901) (hts _ q902) (hts _ q90) (hts _ q903) (lb hR1 rfl) (lb hR4 rfl) (by omega) (by omega) dX18_ends_25 ?_
      refine lv_goto (tgt := 36) hx hb dX18_ends_28 (by decide) ?_
      exact re_i hF hRt hLk hQ (by omega) (by omega) dX18_ends_36 () (by unfold endsV; exact (if_pos (c := dr ≠ -1 ∧ dr ≤ day) ⟨c_5, Int32.not_lt.mp c_13⟩).symm) hW

set_option maxRecDepth 100000 in
set_option maxHeartbeats 4000000 in
theorem mX18_isInForce (l : Launch) (G : pG) (ws : va_W) (a tx : Nat) (on : Option Nat) (nu kn fi gr dr : Int32) (filed day kw : Int32) (ha : (a, .inr (9, [.int nu, .int kn, .int fi, va_rf on, .ref tx, .int gr, .int dr])) ∈ ws) : Met l yX18_isInForce (ws_ yX18_isInForce cX18_isInForce 4 (some .boolean)) ({ frames := 2, cells := 0, slots := 0, locals := 43 } : Room) (va_Pc [.ref a, .int filed, .int day, .int kw] (fun U => pW G (ws) U)) (va_Qi (fun r (_ : Unit) => (r = 1 ∧ (gr ≠ -1 ∧ gr ≤ kw ∧ gr ≤ day ∧ day < endsV dr filed kw)) ∨ (r = 0 ∧ ¬ (gr ≠ -1 ∧ gr ≤ kw ∧ gr ≤ day ∧ day < endsV dr filed kw))) (fun (u : Unit) t9 => pW G (ws) t9) (pA G)) 0 0 (pA G) := by
  refine mw (by decide) (Nat.le_of_ble_eq_true rfl) ?_
  intro pp ee R s m below meth c ls Q hF hRt hLk hnm hR hQ hW hl
  have hx := hF.1
  have hb := hF.2.1
  have hts := hF.2.2.2.2
  have hR1 : R.frames = 2 := by rw [hR]
  have hR2 : R.cells = 0 := by rw [hR]
  have hR3 : R.slots = 0 := by rw [hR]
  have hR4 : R.locals = 43 := by rw [hR]
  have hl : lv_has ls 4 [(0, .ref a), (1, .int filed), (2, .int day), (3, .int kw)] := hl
  have hW : pM G (ws) s s.heap [] := hW
  refine lv_aload_n hx hb dX18_isInForce_0 rfl (lv_at hl 0 rfl) ?_
  refine gt hF hW ha (ci := 9) rfl in_X18 5 (by decide) q784 rfl (v := .int gr) rfl dX18_isInForce_1 ?_
  refine lv_iconst (v := (-1)) hx hb dX18_isInForce_4 (by decide) ?_
  refine lv_icmp_eq (tgt := 38) hx hb dX18_isInForce_5 (by decide) (fun c_5 => ?_) (fun c_5 => ?_)
  · refine lv_iconst (v := 0) hx hb dX18_isInForce_38 (by decide) ?_
    exact re_z hF hRt hLk hQ (by omega) (by omega) (by decide) dX18_isInForce_39 () (Or.inr ⟨rfl, fun z => z.1 c_5⟩) hW
  · refine lv_aload_n hx hb dX18_isInForce_8 rfl (lv_at hl 0 rfl) ?_
    refine gt hF hW ha (ci := 9) rfl in_X18 5 (by decide) q784 rfl (v := .int gr) rfl dX18_isInForce_9 ?_
    refine lv_iload_n hx hb dX18_isInForce_12 rfl (lv_at hl 3 rfl) ?_
    refine lv_icmp_gt (tgt := 38) hx hb dX18_isInForce_13 (by decide) (fun c_13 => ?_) (fun c_13 => ?_)
    · refine lv_iconst (v := 0) hx hb dX18_isInForce_38 (by decide) ?_
      exact re_z hF hRt hLk hQ (by omega) (by omega) (by decide) dX18_isInForce_39 () (Or.inr ⟨rfl, fun z => absurd z.2.1 (Int32.not_le.mpr c_13)⟩) hW
    · refine lv_aload_n hx hb dX18_isInForce_16 rfl (lv_at hl 0 rfl) ?_
      refine gt hF hW ha (ci := 9) rfl in_X18 5 (by decide) q784 rfl (v := .int gr) rfl dX18_isInForce_17 ?_
      refine lv_iload_n hx hb dX18_isInForce_20 rfl (lv_at hl 2 rfl) ?_
      refine lv_icmp_gt (tgt := 38) hx hb dX18_isInForce_21 (by decide) (fun c_21 => ?_) (fun c_21 => ?_)
      · refine lv_iconst (v := 0) hx hb dX18_isInForce_38 (by decide) ?_
        exact re_z hF hRt hLk hQ (by omega) (by omega) (by decide) dX18_isInForce_39 () (Or.inr ⟨rfl, fun z => absurd z.2.2.1 (Int32.not_le.mpr c_21)⟩) hW
      · refine lv_iload_n hx hb dX18_isInForce_24 rfl (lv_at hl 2 rfl) ?_
        refine lv_aload_n hx hb dX18_isInForce_25 rfl (lv_at hl 0 rfl) ?_
        refine lv_iload_n hx hb dX18_isInForce_26 rfl (lv_at hl 1 rfl) ?_
        refine lv_iload_n hx hb dX18_isInForce_27 rfl (lv_at hl 3 rfl) ?_
        refine cl_i (ru_V (As := [.int filed, .int kw]) (rest := [.int day]) hF (mX18_ends l G (ws) a tx on nu kn fi gr dr filed kw ha) (cwV 2 hts (lw_V q980 q898 q899 q85 q900) rfl rfl rfl (by decide +kernel) ⟨lb hR1 rfl, lb hR4 rfl⟩) hW ha (ci := 9) rfl rfl rfl hl.1 rfl (lv_room (Nat.le_of_ble_eq_true rfl)) dX18_isInForce_28 ⟨by omega, by omega⟩) hW (fun r_1 u_2 H locs h_3 hW => ?_)
        obtain rfl : r_1 = endsV dr filed kw := h_3
        have hW : pM G (ws) s _ _ := hW
        refine lv_icmp_ge (tgt := 38) hx hb dX18_isInForce_31 (by decide) (fun c_31 => ?_) (fun c_31 => ?_)
        · refine lv_iconst (v := 0) hx hb dX18_isInForce_38 (by decide) ?_
          exact re_z hF hRt hLk hQ (by omega) (by omega) (by decide) dX18_isInForce_39 () (Or.inr ⟨rfl, fun z => absurd z.2.2.2 (Int32.not_lt.mpr c_31)⟩) hW
        · refine lv_iconst (v := 1) hx hb dX18_isInForce_34 (by decide) ?_
          refine lv_goto (tgt := 39) hx hb dX18_isInForce_35 (by decide) ?_
          exact re_z hF hRt hLk hQ (by omega) (by omega) (by decide) dX18_isInForce_39 () (Or.inl ⟨rfl, c_5, Int32.not_lt.mp c_13, Int32.not_lt.mp c_21, Int32.not_le.mp c_31⟩) hW

set_option maxRecDepth 100000 in
set_option maxHeartbeats 4000000 in
theorem mX2_by_4 (l : Launch) (G : pG) (ad : Nat → Nat) (x : XV) (T : va_W) (a0 : Int32) : Met l yX2_by (ws_ yX2_by cX2_by 2 (some (.object "PatentHall$Refused"))) ({ frames := 0, cells := 0, slots := 0, locals := 0 } : Room) (va_Pc [.ref (ad 4), .int a0] (fun U => pW G (HWl G ad x ++ T) U)) (va_Qq (fun r u => r = some (ad 4) ∧ u = xi (xi (xi x 18 a0) 19 0) 20 (-1)) (fun (u : XV) t9 => pW G (HWl G ad u ++ T) t9) (pA G)) 0 0 (pA G) := by
  refine mw (by decide) (Nat.le_of_ble_eq_true rfl) ?_
  intro pp ee R s m below meth c ls Q hF hRt hLk hnm hR hQ hW hl
  have hx := hF.1
  have hb := hF.2.1
  have hts := hF.2.2.2.2
  have hR1 : R.frames = 0 := by rw [hR]
  have hR2 : R.cells = 0 := by rw [hR]
  have hR3 : R.slots = 0 := by rw [hR]
  have hR4 : R.locals = 0 := by rw [hR]
  have hl : lv_has ls 2 [(0, .ref (ad 4)), (1, .int a0)] := hl
  have hW : pM G (HWl G ad x ++ T) s s.heap [] := hW
  refine lv_aload_n hx hb dX2_by_0 rfl (lv_at hl 0 rfl) ?_
  refine lv_iload_n hx hb dX2_by_1 rfl (lv_at hl 1 rfl) ?_
  refine pH4_why hF hW q157 dX2_by_2 (fun H locs hW => ?_)
  have hW : pM G (HWl G ad (xi x 18 a0) ++ T) s _ _ := hW
  refine lv_aload_n hx hb dX2_by_5 rfl (lv_at hl 0 rfl) ?_
  refine lv_iconst (v := 0) hx hb dX2_by_6 (by decide) ?_
  refine pH4_fault hF hW q159 dX2_by_7 (fun H locs hW => ?_)
  have hW : pM G (HWl G ad (xi (xi x 18 a0) 19 0) ++ T) s _ _ := hW
  refine lv_aload_n hx hb dX2_by_10 rfl (lv_at hl 0 rfl) ?_
  refine lv_iconst (v := (-1)) hx hb dX2_by_11 (by decide) ?_
  refine pH4_place hF hW q161 dX2_by_12 (fun H locs hW => ?_)
  have hW : pM G (HWl G ad (xi (xi (xi x 18 a0) 19 0) 20 (-1)) ++ T) s _ _ := hW
  refine lv_aload_n hx hb dX2_by_15 rfl (lv_at hl 0 rfl) ?_
  exact re_q hF hRt (Or.inl ⟨_, rfl⟩) hLk hQ (by omega) (by omega) dX2_by_16 (some (ad 4)) rfl (xi (xi (xi x 18 a0) 19 0) 20 (-1)) (⟨rfl, rfl⟩) hW

set_option maxRecDepth 100000 in
set_option maxHeartbeats 4000000 in
theorem mX2_at_4 (l : Launch) (G : pG) (ad : Nat → Nat) (x : XV) (T : va_W) (a0 a1 : Int32) : Met l yX2_at (ws_ yX2_at cX2_at 3 (some (.object "PatentHall$Refused"))) ({ frames := 1, cells := 0, slots := 0, locals := 21 } : Room) (va_Pc [.ref (ad 4), .int a0, .int a1] (fun U => pW G (HWl G ad x ++ T) U)) (va_Qq (fun r u => r = some (ad 4) ∧ u = xi (xi (xi x 18 4) 19 a0) 20 a1) (fun (u : XV) t9 => pW G (HWl G ad u ++ T) t9) (pA G)) 0 0 (pA G) := by
  refine mw (by decide) (Nat.le_of_ble_eq_true rfl) ?_
  intro pp ee R s m below meth c ls Q hF hRt hLk hnm hR hQ hW hl
  have hx := hF.1
  have hb := hF.2.1
  have hts := hF.2.2.2.2
  have hR1 : R.frames = 1 := by rw [hR]
  have hR2 : R.cells = 0 := by rw [hR]
  have hR3 : R.slots = 0 := by rw [hR]
  have hR4 : R.locals = 21 := by rw [hR]
  have hl : lv_has ls 3 [(0, .ref (ad 4)), (1, .int a0), (2, .int a1)] := hl
  have hW : pM G (HWl G ad x ++ T) s s.heap [] := hW
  refine lv_aload_n hx hb dX2_at_0 rfl (lv_at hl 0 rfl) ?_
  refine lv_iconst (v := 4) hx hb dX2_at_1 (by decide) ?_
  refine cl_q (ru_V (As := [.int 4]) (rest := []) hF (mX2_by_4 l G ad x T 4) (cwV 1 hts (lw_V q591 q371 q372 q64 q373) rfl rfl rfl (by decide +kernel) ⟨lb hR1 rfl, lb hR4 rfl⟩) hW (List.mem_of_getElem? (i := 4) rfl) (ci := 2) rfl rfl rfl hl.1 rfl (lv_room (Nat.le_of_ble_eq_true rfl)) dX2_at_2 ⟨by omega, by omega⟩) hW (fun r_1 u_2 H locs h_3 hW => ?_)
  obtain ⟨rfl, rfl⟩ : r_1 = some (ad 4) ∧ u_2 = (xi (xi (xi x 18 4) 19 0) 20 (-1)) := h_3
  have hW : pM G (HWl G ad (xi (xi (xi x 18 4) 19 0) 20 (-1)) ++ T) s _ _ := hW
  refine lv_eqv (y := .ref (ad 4)) rfl ?_
  refine lv_pop hx hb dX2_at_5 rfl ?_
  refine lv_aload_n hx hb dX2_at_6 rfl (lv_at hl 0 rfl) ?_
  refine lv_iload_n hx hb dX2_at_7 rfl (lv_at hl 1 rfl) ?_
  refine pH4_fault hF hW q159 dX2_at_8 (fun H locs hW => ?_)
  have hW : pM G (HWl G ad (xi (xi (xi x 18 4) 19 a0) 20 (-1)) ++ T) s _ _ := hW
  refine lv_aload_n hx hb dX2_at_11 rfl (lv_at hl 0 rfl) ?_
  refine lv_iload_n hx hb dX2_at_12 rfl (lv_at hl 2 rfl) ?_
  refine pH4_place hF hW q161 dX2_at_13 (fun H locs hW => ?_)
  have hW : pM G (HWl G ad (xi (xi (xi x 18 4) 19 a0) 20 a1) ++ T) s _ _ := hW
  refine lv_aload_n hx hb dX2_at_16 rfl (lv_at hl 0 rfl) ?_
  exact re_q hF hRt (Or.inl ⟨_, rfl⟩) hLk hQ (by omega) (by omega) dX2_at_17 (some (ad 4)) rfl (xi (xi (xi x 18 4) 19 a0) 20 a1) (⟨rfl, rfl⟩) hW

set_option maxRecDepth 100000 in
set_option maxHeartbeats 4000000 in
theorem mX2_by_15 (l : Launch) (G : pG) (ad : Nat → Nat) (x : XV) (T : va_W) (a0 : Int32) : Met l yX2_by (ws_ yX2_by cX2_by 2 (some (.object "PatentHall$Refused"))) ({ frames := 0, cells := 0, slots := 0, locals := 0 } : Room) (va_Pc [.ref (ad 15), .int a0] (fun U => pW G (HWl G ad x ++ T) U)) (va_Qq (fun r u => r = some (ad 15) ∧ u = xi (xi (xi x 25 a0) 26 0) 27 (-1)) (fun (u : XV) t9 => pW G (HWl G ad u ++ T) t9) (pA G)) 0 0 (pA G) := by
  refine mw (by decide) (Nat.le_of_ble_eq_true rfl) ?_
  intro pp ee R s m below meth c ls Q hF hRt hLk hnm hR hQ hW hl
  have hx := hF.1
  have hb := hF.2.1
  have hts := hF.2.2.2.2
  have hR1 : R.frames = 0 := by rw [hR]
  have hR2 : R.cells = 0 := by rw [hR]
  have hR3 : R.slots = 0 := by rw [hR]
  have hR4 : R.locals = 0 := by rw [hR]
  have hl : lv_has ls 2 [(0, .ref (ad 15)), (1, .int a0)] := hl
  have hW : pM G (HWl G ad x ++ T) s s.heap [] := hW
  refine lv_aload_n hx hb dX2_by_0 rfl (lv_at hl 0 rfl) ?_
  refine lv_iload_n hx hb dX2_by_1 rfl (lv_at hl 1 rfl) ?_
  refine pH15_why hF hW q157 dX2_by_2 (fun H locs hW => ?_)
  have hW : pM G (HWl G ad (xi x 25 a0) ++ T) s _ _ := hW
  refine lv_aload_n hx hb dX2_by_5 rfl (lv_at hl 0 rfl) ?_
  refine lv_iconst (v := 0) hx hb dX2_by_6 (by decide) ?_
  refine pH15_fault hF hW q159 dX2_by_7 (fun H locs hW => ?_)
  have hW : pM G (HWl G ad (xi (xi x 25 a0) 26 0) ++ T) s _ _ := hW
  refine lv_aload_n hx hb dX2_by_10 rfl (lv_at hl 0 rfl) ?_
  refine lv_iconst (v := (-1)) hx hb dX2_by_11 (by decide) ?_
  refine pH15_place hF hW q161 dX2_by_12 (fun H locs hW => ?_)
  have hW : pM G (HWl G ad (xi (xi (xi x 25 a0) 26 0) 27 (-1)) ++ T) s _ _ := hW
  refine lv_aload_n hx hb dX2_by_15 rfl (lv_at hl 0 rfl) ?_
  exact re_q hF hRt (Or.inl ⟨_, rfl⟩) hLk hQ (by omega) (by omega) dX2_by_16 (some (ad 15)) rfl (xi (xi (xi x 25 a0) 26 0) 27 (-1)) (⟨rfl, rfl⟩) hW

set_option maxRecDepth 100000 in
set_option maxHeartbeats 4000000 in
theorem mX2_at_15 (l : Launch) (G : pG) (ad : Nat → Nat) (x : XV) (T : va_W) (a0 a1 : Int32) : Met l yX2_at (ws_ yX2_at cX2_at 3 (some (.object "PatentHall$Refused"))) ({ frames := 1, cells := 0, slots := 0, locals := 21 } : Room) (va_Pc [.ref (ad 15), .int a0, .int a1] (fun U => pW G (HWl G ad x ++ T) U)) (va_Qq (fun r u => r = some (ad 15) ∧ u = xi (xi (xi x 25 4) 26 a0) 27 a1) (fun (u : XV) t9 => pW G (HWl G ad u ++ T) t9) (pA G)) 0 0 (pA G) := by
  refine mw (by decide) (Nat.le_of_ble_eq_true rfl) ?_
  intro pp ee R s m below meth c ls Q hF hRt hLk hnm hR hQ hW hl
  have hx := hF.1
  have hb := hF.2.1
  have hts := hF.2.2.2.2
  have hR1 : R.frames = 1 := by rw [hR]
  have hR2 : R.cells = 0 := by rw [hR]
  have hR3 : R.slots = 0 := by rw [hR]
  have hR4 : R.locals = 21 := by rw [hR]
  have hl : lv_has ls 3 [(0, .ref (ad 15)), (1, .int a0), (2, .int a1)] := hl
  have hW : pM G (HWl G ad x ++ T) s s.heap [] := hW
  refine lv_aload_n hx hb dX2_at_0 rfl (lv_at hl 0 rfl) ?_
  refine lv_iconst (v := 4) hx hb dX2_at_1 (by decide) ?_
  refine cl_q (ru_V (As := [.int 4]) (rest := []) hF (mX2_by_15 l G ad x T 4) (cwV 1 hts (lw_V q591 q371 q372 q64 q373) rfl rfl rfl (by decide +kernel) ⟨lb hR1 rfl, lb hR4 rfl⟩) hW (List.mem_of_getElem? (i := 15) rfl) (ci := 2) rfl rfl rfl hl.1 rfl (lv_room (Nat.le_of_ble_eq_true rfl)) dX2_at_2 ⟨by omega, by omega⟩) hW (fun r_1 u_2 H locs h_3 hW => ?_)
  obtain ⟨rfl, rfl⟩ : r_1 = some (ad 15) ∧ u_2 = (xi (xi (xi x 25 4) 26 0) 27 (-1)) := h_3
  have hW : pM G (HWl G ad (xi (xi (xi x 25 4) 26 0) 27 (-1)) ++ T) s _ _ := hW
  refine lv_eqv (y := .ref (ad 15)) rfl ?_
  refine lv_pop hx hb dX2_at_5 rfl ?_
  refine lv_aload_n hx hb dX2_at_6 rfl (lv_at hl 0 rfl) ?_
  refine lv_iload_n hx hb dX2_at_7 rfl (lv_at hl 1 rfl) ?_
  refine pH15_fault hF hW q159 dX2_at_8 (fun H locs hW => ?_)
  have hW : pM G (HWl G ad (xi (xi (xi x 25 4) 26 a0) 27 (-1)) ++ T) s _ _ := hW
  refine lv_aload_n hx hb dX2_at_11 rfl (lv_at hl 0 rfl) ?_
  refine lv_iload_n hx hb dX2_at_12 rfl (lv_at hl 2 rfl) ?_
  refine pH15_place hF hW q161 dX2_at_13 (fun H locs hW => ?_)
  have hW : pM G (HWl G ad (xi (xi (xi x 25 4) 26 a0) 27 a1) ++ T) s _ _ := hW
  refine lv_aload_n hx hb dX2_at_16 rfl (lv_at hl 0 rfl) ?_
  exact re_q hF hRt (Or.inl ⟨_, rfl⟩) hLk hQ (by omega) (by omega) dX2_at_17 (some (ad 15)) rfl (xi (xi (xi x 25 4) 26 a0) 27 a1) (⟨rfl, rfl⟩) hW
