/-! the model's face -/
theorem sw_o {x : Int32} {hi : Nat} (h : ∀ k : Nat, k ≤ hi → ¬ x = nI k) : x.toInt < 0 ∨ (hi : Int) < x.toInt := by
  by_cases c : x.toInt < 0 ∨ (hi : Int) < x.toInt
  · exact c
  · exfalso
    have hl := Int32.toInt_lt x
    refine h x.toInt.toNat (by omega) ?_
    apply Int32.toInt_inj.mp
    rw [nI_toInt (by omega)]
    omega

set_option maxRecDepth 100000 in
set_option maxHeartbeats 4000000 in
theorem mX4_act_n (l : Launch) (G : pG) (ad : Nat → Nat) (x : XV) (T : va_W) (n : Nat) (hn : n < 100) (h10 : x.1 10 = nI n) (a0 a1 : Int32) : Met l yX4_act (ws_ yX4_act cX4_act 5 none) ({ frames := 0, cells := 0, slots := 0, locals := 0 } : Room) (va_Pc [.ref (ad 0), .int a0, .int a1, .null] (fun U => pW G (MWl G ad x ++ T) U)) (va_Qv (fun u => u = xr (xa (xa (xi x 10 (nI (n + 1))) 11 (va_up (x.2.1 11) n a0)) 12 (va_up (x.2.1 12) n a1)) 4 (va_up (x.2.2.1 4) n none)) (fun (u : XV) t9 => pW G (MWl G ad u ++ T) t9) (pA G)) 0 0 (pA G) := by
  refine mw (by decide) (Nat.le_of_ble_eq_true rfl) ?_
  intro pp ee R s m below meth c ls Q hF hRt hLk hnm hR hQ hW hl
  have hx := hF.1
  have hb := hF.2.1
  have hts := hF.2.2.2.2
  have hR1 : R.frames = 0 := by rw [hR]
  have hR2 : R.cells = 0 := by rw [hR]
  have hR3 : R.slots = 0 := by rw [hR]
  have hR4 : R.locals = 0 := by rw [hR]
  have hl : lv_has ls 5 [(0, .ref (ad 0)), (1, .int a0), (2, .int a1), (3, .null)] := hl
  have hW : pM G (MWl G ad x ++ T) s s.heap [] := hW
  refine lv_aload_n hx hb dX4_act_0 rfl (lv_at hl 0 rfl) ?_
  refine gM0_acts hF hW q1124 (v := nI n) (h10) dX4_act_1 ?_
  refine lv_bipush (v := 100) hx hb dX4_act_4 (by decide) ?_
  refine lv_icmp_ne (tgt := 83) hx hb dX4_act_6 (by decide) (fun c_6 => ?_) (fun c_6 => absurd c_6 (fun z => by have := eq_eq (b := 100) z; omega))
  refine lv_aload_n hx hb dX4_act_83 rfl (lv_at hl 0 rfl) ?_
  refine gM0_actWhat hF hW q1121 dX4_act_84 ?_
  refine lv_aload_n hx hb dX4_act_87 rfl (lv_at hl 0 rfl) ?_
  refine gM0_acts hF hW q1124 (v := nI n) (h10) dX4_act_88 ?_
  refine lv_iload_n hx hb dX4_act_91 rfl (lv_at hl 1 rfl) ?_
  refine sM17 hF hW (j := n) (rfl) (by omega) dX4_act_92 (fun H locs hW => ?_)
  have hW : pM G (MWl G ad (xa x 11 (va_up (x.2.1 11) n a0)) ++ T) s _ _ := hW
  refine lv_aload_n hx hb dX4_act_93 rfl (lv_at hl 0 rfl) ?_
  refine gM0_actOne hF hW q1122 dX4_act_94 ?_
  refine lv_aload_n hx hb dX4_act_97 rfl (lv_at hl 0 rfl) ?_
  refine gM0_acts hF hW q1124 (v := nI n) (h10) dX4_act_98 ?_
  refine lv_iload_n hx hb dX4_act_101 rfl (lv_at hl 2 rfl) ?_
  refine sM18 hF hW (j := n) (rfl) (by omega) dX4_act_102 (fun H locs hW => ?_)
  have hW : pM G (MWl G ad (xa (xa x 11 (va_up (x.2.1 11) n a0)) 12 (va_up (x.2.1 12) n a1)) ++ T) s _ _ := hW
  refine lv_aload_n hx hb dX4_act_103 rfl (lv_at hl 0 rfl) ?_
  refine gM0_actText hF hW q1123 dX4_act_104 ?_
  refine lv_aload_n hx hb dX4_act_107 rfl (lv_at hl 0 rfl) ?_
  refine gM0_acts hF hW q1124 (v := nI n) (h10) dX4_act_108 ?_
  refine lv_aload_nN hx hb dX4_act_111 rfl (lv_at hl 3 rfl) ?_
  refine nM19 hF hW (j := n) (rfl) (by omega) dX4_act_112 (fun H locs hW => ?_)
  have hW : pM G (MWl G ad (xr (xa (xa x 11 (va_up (x.2.1 11) n a0)) 12 (va_up (x.2.1 12) n a1)) 4 (va_up (x.2.2.1 4) n none)) ++ T) s _ _ := hW
  refine lv_aload_n hx hb dX4_act_113 rfl (lv_at hl 0 rfl) ?_
  refine lv_dup hx hb dX4_act_114 rfl ?_
  refine gM0_acts hF hW q1124 (v := nI n) (h10) dX4_act_115 ?_
  refine lv_iconst (v := 1) hx hb dX4_act_118 (by decide) ?_
  refine lv_iadd hx hb dX4_act_119 ?_
  refine lv_eqi (show (nI n) + 1 = nI (n + 1) from nI_add n 1) ?_
  refine pM0_acts hF hW q1124 dX4_act_120 (fun H locs hW => ?_)
  have hW : pM G (MWl G ad (xr (xa (xa (xi x 10 (nI (n + 1))) 11 (va_up (x.2.1 11) n a0)) 12 (va_up (x.2.1 12) n a1)) 4 (va_up (x.2.2.1 4) n none)) ++ T) s _ _ := hW
  exact re_v hF hRt hLk hQ (by omega) (by omega) dX4_act_123 (xr (xa (xa (xi x 10 (nI (n + 1))) 11 (va_up (x.2.1 11) n a0)) 12 (va_up (x.2.1 12) n a1)) 4 (va_up (x.2.2.1 4) n none)) (rfl) hW

set_option maxRecDepth 100000 in
set_option maxHeartbeats 4000000 in
theorem mX4_act_t (l : Launch) (G : pG) (ad : Nat → Nat) (x : XV) (T : va_W) (n : Nat) (hn : n < 100) (h10 : x.1 10 = nI n) (a0 a1 : Int32) (q f2 f3 f4 f5 f6 : Nat) (f0 f1 : Int32) (hq : (q, .inr (22, [.int f0, .int f1, .ref f2, .ref f3, .ref f4, .ref f5, .ref f6])) ∈ T) : Met l yX4_act (ws_ yX4_act cX4_act 5 none) ({ frames := 0, cells := 0, slots := 0, locals := 0 } : Room) (va_Pc [.ref (ad 0), .int a0, .int a1, .ref q] (fun U => pW G (MWl G ad x ++ T) U)) (va_Qv (fun u => u = xr (xa (xa (xi x 10 (nI (n + 1))) 11 (va_up (x.2.1 11) n a0)) 12 (va_up (x.2.1 12) n a1)) 4 (va_up (x.2.2.1 4) n (some q))) (fun (u : XV) t9 => pW G (MWl G ad u ++ T) t9) (pA G)) 0 0 (pA G) := by
  refine mw (by decide) (Nat.le_of_ble_eq_true rfl) ?_
  intro pp ee R s m below meth c ls Q hF hRt hLk hnm hR hQ hW hl
  have hx := hF.1
  have hb := hF.2.1
  have hts := hF.2.2.2.2
  have hR1 : R.frames = 0 := by rw [hR]
  have hR2 : R.cells = 0 := by rw [hR]
  have hR3 : R.slots = 0 := by rw [hR]
  have hR4 : R.locals = 0 := by rw [hR]
  have hl : lv_has ls 5 [(0, .ref (ad 0)), (1, .int a0), (2, .int a1), (3, .ref q)] := hl
  have hW : pM G (MWl G ad x ++ T) s s.heap [] := hW
  refine lv_aload_n hx hb dX4_act_0 rfl (lv_at hl 0 rfl) ?_
  refine gM0_acts hF hW q1124 (v := nI n) (h10) dX4_act_1 ?_
  refine lv_bipush (v := 100) hx hb dX4_act_4 (by decide) ?_
  refine lv_icmp_ne (tgt := 83) hx hb dX4_act_6 (by decide) (fun c_6 => ?_) (fun c_6 => absurd c_6 (fun z => by have := eq_eq (b := 100) z; omega))
  refine lv_aload_n hx hb dX4_act_83 rfl (lv_at hl 0 rfl) ?_
  refine gM0_actWhat hF hW q1121 dX4_act_84 ?_
  refine lv_aload_n hx hb dX4_act_87 rfl (lv_at hl 0 rfl) ?_
  refine gM0_acts hF hW q1124 (v := nI n) (h10) dX4_act_88 ?_
  refine lv_iload_n hx hb dX4_act_91 rfl (lv_at hl 1 rfl) ?_
  refine sM17 hF hW (j := n) (rfl) (by omega) dX4_act_92 (fun H locs hW => ?_)
  have hW : pM G (MWl G ad (xa x 11 (va_up (x.2.1 11) n a0)) ++ T) s _ _ := hW
  refine lv_aload_n hx hb dX4_act_93 rfl (lv_at hl 0 rfl) ?_
  refine gM0_actOne hF hW q1122 dX4_act_94 ?_
  refine lv_aload_n hx hb dX4_act_97 rfl (lv_at hl 0 rfl) ?_
  refine gM0_acts hF hW q1124 (v := nI n) (h10) dX4_act_98 ?_
  refine lv_iload_n hx hb dX4_act_101 rfl (lv_at hl 2 rfl) ?_
  refine sM18 hF hW (j := n) (rfl) (by omega) dX4_act_102 (fun H locs hW => ?_)
  have hW : pM G (MWl G ad (xa (xa x 11 (va_up (x.2.1 11) n a0)) 12 (va_up (x.2.1 12) n a1)) ++ T) s _ _ := hW
  refine lv_aload_n hx hb dX4_act_103 rfl (lv_at hl 0 rfl) ?_
  refine gM0_actText hF hW q1123 dX4_act_104 ?_
  refine lv_aload_n hx hb dX4_act_107 rfl (lv_at hl 0 rfl) ?_
  refine gM0_acts hF hW q1124 (v := nI n) (h10) dX4_act_108 ?_
  refine lv_aload_n hx hb dX4_act_111 rfl (lv_at hl 3 rfl) ?_
  refine sM19 hF hW (ms_r hq) (ci := 22) rfl rfl (j := n) (rfl) (by omega) dX4_act_112 (fun H locs hW => ?_)
  have hW : pM G (MWl G ad (xr (xa (xa x 11 (va_up (x.2.1 11) n a0)) 12 (va_up (x.2.1 12) n a1)) 4 (va_up (x.2.2.1 4) n (some q))) ++ T) s _ _ := hW
  refine lv_aload_n hx hb dX4_act_113 rfl (lv_at hl 0 rfl) ?_
  refine lv_dup hx hb dX4_act_114 rfl ?_
  refine gM0_acts hF hW q1124 (v := nI n) (h10) dX4_act_115 ?_
  refine lv_iconst (v := 1) hx hb dX4_act_118 (by decide) ?_
  refine lv_iadd hx hb dX4_act_119 ?_
  refine lv_eqi (show (nI n) + 1 = nI (n + 1) from nI_add n 1) ?_
  refine pM0_acts hF hW q1124 dX4_act_120 (fun H locs hW => ?_)
  have hW : pM G (MWl G ad (xr (xa (xa (xi x 10 (nI (n + 1))) 11 (va_up (x.2.1 11) n a0)) 12 (va_up (x.2.1 12) n a1)) 4 (va_up (x.2.2.1 4) n (some q))) ++ T) s _ _ := hW
  exact re_v hF hRt hLk hQ (by omega) (by omega) dX4_act_123 (xr (xa (xa (xi x 10 (nI (n + 1))) 11 (va_up (x.2.1 11) n a0)) 12 (va_up (x.2.1 12) n a1)) 4 (va_up (x.2.2.1 4) n (some q))) (rfl) hW

set_option maxRecDepth 100000 in
set_option maxHeartbeats 4000000 in
theorem mX4_fault (l : Launch) (G : pG) (ad : Nat → Nat) (y : XV) (W0 T : va_W) (hT : ∀ q ∈ T, q ∈ W0) (S : AS) (n9 : Nat) (hS : SOk n9 S) (hn9 : n9 ≤ 64) (hMR : MR G T y S) : Met l yX4_fault (ws_ yX4_fault cX4_fault 1 (some .int)) ({ frames := 0, cells := 0, slots := 0, locals := 0 } : Room) (va_Pc [.ref (ad 0)] (fun U => pW G (MWl G ad y ++ W0) U)) (va_Qi (fun r (u : XV) => r = ((S, faultS S)).2 ∧ MR G T u ((S, faultS S)).1) (fun (u : XV) t9 => pW G (MWl G ad u ++ W0) t9) (pA G)) 0 0 (pA G) := by
  refine mw (by decide) (Nat.le_of_ble_eq_true rfl) ?_
  intro pp ee R s m below meth c ls Q hF hRt hLk hnm hR hQ hW hl
  have hx := hF.1
  have hb := hF.2.1
  have hts := hF.2.2.2.2
  have hR1 : R.frames = 0 := by rw [hR]
  have hR2 : R.cells = 0 := by rw [hR]
  have hR3 : R.slots = 0 := by rw [hR]
  have hR4 : R.locals = 0 := by rw [hR]
  have hl : lv_has ls 1 [(0, .ref (ad 0))] := hl
  have hW : pM G (MWl G ad y ++ W0) s s.heap [] := hW
  obtain ⟨m0, m1, m2, m3, m4, m5, m6, m7, m8, m9, m10, m11, m12, m13, m14, m15, m16, m17, m18, m19, m20, m21, m22⟩ := hMR
  have hI := hS.inv
  have b0 := hI.1.1
  have b1 := hI.2.1.1
  have b2 := hI.2.2.1.1
  have b3 := hI.2.2.2.1.1
  have b4 := hI.2.2.2.2.1.1
  have b5 := hI.2.2.2.2.2
  have b6 := hS.2.1
  have b7 := hS.2.2.1
  have b8 := hS.2.2.2.1
  have b9 := hS.2.2.2.2.1
  refine lv_aload_n hx hb dX4_fault_0 rfl (lv_at hl 0 rfl) ?_
  refine lv_iconst (v := 0) hx hb dX4_fault_1 (by decide) ?_
  refine pM0_thrown hF hW q1095 dX4_fault_2 (fun H locs hW => ?_)
  have hW : pM G (MWl G ad (xi y 0 0) ++ W0) s _ _ := hW
  refine lv_aload_n hx hb dX4_fault_5 rfl (lv_at hl 0 rfl) ?_
  refine gM0_fault hF hW q1098 (v := S.2.2.2.2.1.2.1) (m16) dX4_fault_6 ?_
  exact re_i hF hRt hLk hQ (by omega) (by omega) dX4_fault_9 (xi y 0 0) (⟨rfl, ⟨m0, m1, m2, m3, m4, m5, m6, m7, m8, m9, m10, m11, m12, m13, m14, m15, m16, m17, m18, m19, m20, m21, m22⟩⟩) hW

set_option maxRecDepth 100000 in
set_option maxHeartbeats 4000000 in
theorem mX4_where (l : Launch) (G : pG) (ad : Nat → Nat) (y : XV) (W0 T : va_W) (hT : ∀ q ∈ T, q ∈ W0) (S : AS) (n9 : Nat) (hS : SOk n9 S) (hn9 : n9 ≤ 64) (hMR : MR G T y S) : Met l yX4_where (ws_ yX4_where cX4_where 1 (some .int)) ({ frames := 0, cells := 0, slots := 0, locals := 0 } : Room) (va_Pc [.ref (ad 0)] (fun U => pW G (MWl G ad y ++ W0) U)) (va_Qi (fun r (u : XV) => r = ((S, whereS S)).2 ∧ MR G T u ((S, whereS S)).1) (fun (u : XV) t9 => pW G (MWl G ad u ++ W0) t9) (pA G)) 0 0 (pA G) := by
  refine mw (by decide) (Nat.le_of_ble_eq_true rfl) ?_
  intro pp ee R s m below meth c ls Q hF hRt hLk hnm hR hQ hW hl
  have hx := hF.1
  have hb := hF.2.1
  have hts := hF.2.2.2.2
  have hR1 : R.frames = 0 := by rw [hR]
  have hR2 : R.cells = 0 := by rw [hR]
  have hR3 : R.slots = 0 := by rw [hR]
  have hR4 : R.locals = 0 := by rw [hR]
  have hl : lv_has ls 1 [(0, .ref (ad 0))] := hl
  have hW : pM G (MWl G ad y ++ W0) s s.heap [] := hW
  obtain ⟨m0, m1, m2, m3, m4, m5, m6, m7, m8, m9, m10, m11, m12, m13, m14, m15, m16, m17, m18, m19, m20, m21, m22⟩ := hMR
  have hI := hS.inv
  have b0 := hI.1.1
  have b1 := hI.2.1.1
  have b2 := hI.2.2.1.1
  have b3 := hI.2.2.2.1.1
  have b4 := hI.2.2.2.2.1.1
  have b5 := hI.2.2.2.2.2
  have b6 := hS.2.1
  have b7 := hS.2.2.1
  have b8 := hS.2.2.2.1
  have b9 := hS.2.2.2.2.1
  refine lv_aload_n hx hb dX4_where_0 rfl (lv_at hl 0 rfl) ?_
  refine lv_iconst (v := 0) hx hb dX4_where_1 (by decide) ?_
  refine pM0_thrown hF hW q1095 dX4_where_2 (fun H locs hW => ?_)
  have hW : pM G (MWl G ad (xi y 0 0) ++ W0) s _ _ := hW
  refine lv_aload_n hx hb dX4_where_5 rfl (lv_at hl 0 rfl) ?_
  refine gM0_where hF hW q1097 (v := S.2.2.2.2.1.2.2.1) (m17) dX4_where_6 ?_
  exact re_i hF hRt hLk hQ (by omega) (by omega) dX4_where_9 (xi y 0 0) (⟨rfl, ⟨m0, m1, m2, m3, m4, m5, m6, m7, m8, m9, m10, m11, m12, m13, m14, m15, m16, m17, m18, m19, m20, m21, m22⟩⟩) hW

set_option maxRecDepth 100000 in
set_option maxHeartbeats 4000000 in
theorem mX4_trouble (l : Launch) (G : pG) (ad : Nat → Nat) (y : XV) (W0 T : va_W) (hT : ∀ q ∈ T, q ∈ W0) (S : AS) (n9 : Nat) (hS : SOk n9 S) (hn9 : n9 ≤ 64) (hMR : MR G T y S) : Met l yX4_trouble (ws_ yX4_trouble cX4_trouble 1 (some .int)) ({ frames := 0, cells := 0, slots := 0, locals := 0 } : Room) (va_Pc [.ref (ad 0)] (fun U => pW G (MWl G ad y ++ W0) U)) (va_Qi (fun r (u : XV) => r = ((S, troubleS S)).2 ∧ MR G T u ((S, troubleS S)).1) (fun (u : XV) t9 => pW G (MWl G ad u ++ W0) t9) (pA G)) 0 0 (pA G) := by
  refine mw (by decide) (Nat.le_of_ble_eq_true rfl) ?_
  intro pp ee R s m below meth c ls Q hF hRt hLk hnm hR hQ hW hl
  have hx := hF.1
  have hb := hF.2.1
  have hts := hF.2.2.2.2
  have hR1 : R.frames = 0 := by rw [hR]
  have hR2 : R.cells = 0 := by rw [hR]
  have hR3 : R.slots = 0 := by rw [hR]
  have hR4 : R.locals = 0 := by rw [hR]
  have hl : lv_has ls 1 [(0, .ref (ad 0))] := hl
  have hW : pM G (MWl G ad y ++ W0) s s.heap [] := hW
  obtain ⟨m0, m1, m2, m3, m4, m5, m6, m7, m8, m9, m10, m11, m12, m13, m14, m15, m16, m17, m18, m19, m20, m21, m22⟩ := hMR
  have hI := hS.inv
  have b0 := hI.1.1
  have b1 := hI.2.1.1
  have b2 := hI.2.2.1.1
  have b3 := hI.2.2.2.1.1
  have b4 := hI.2.2.2.2.1.1
  have b5 := hI.2.2.2.2.2
  have b6 := hS.2.1
  have b7 := hS.2.2.1
  have b8 := hS.2.2.2.1
  have b9 := hS.2.2.2.2.1
  refine lv_aload_n hx hb dX4_trouble_0 rfl (lv_at hl 0 rfl) ?_
  refine lv_iconst (v := 0) hx hb dX4_trouble_1 (by decide) ?_
  refine pM0_thrown hF hW q1095 dX4_trouble_2 (fun H locs hW => ?_)
  have hW : pM G (MWl G ad (xi y 0 0) ++ W0) s _ _ := hW
  refine lv_aload_n hx hb dX4_trouble_5 rfl (lv_at hl 0 rfl) ?_
  refine gM0_trouble hF hW q1096 (v := S.2.2.2.2.1.1) (m15) dX4_trouble_6 ?_
  exact re_i hF hRt hLk hQ (by omega) (by omega) dX4_trouble_9 (xi y 0 0) (⟨rfl, ⟨m0, m1, m2, m3, m4, m5, m6, m7, m8, m9, m10, m11, m12, m13, m14, m15, m16, m17, m18, m19, m20, m21, m22⟩⟩) hW

set_option maxRecDepth 100000 in
set_option maxHeartbeats 4000000 in
theorem mX4_left (l : Launch) (G : pG) (ad : Nat → Nat) (y : XV) (W0 T : va_W) (hT : ∀ q ∈ T, q ∈ W0) (S : AS) (n9 : Nat) (hS : SOk n9 S) (hn9 : n9 ≤ 64) (hMR : MR G T y S) : Met l yX4_left (ws_ yX4_left cX4_left 1 (some .int)) ({ frames := 0, cells := 0, slots := 0, locals := 0 } : Room) (va_Pc [.ref (ad 0)] (fun U => pW G (MWl G ad y ++ W0) U)) (va_Qi (fun r (u : XV) => r = ((S, leftS S)).2 ∧ MR G T u ((S, leftS S)).1) (fun (u : XV) t9 => pW G (MWl G ad u ++ W0) t9) (pA G)) 0 0 (pA G) := by
  refine mw (by decide) (Nat.le_of_ble_eq_true rfl) ?_
  intro pp ee R s m below meth c ls Q hF hRt hLk hnm hR hQ hW hl
  have hx := hF.1
  have hb := hF.2.1
  have hts := hF.2.2.2.2
  have hR1 : R.frames = 0 := by rw [hR]
  have hR2 : R.cells = 0 := by rw [hR]
  have hR3 : R.slots = 0 := by rw [hR]
  have hR4 : R.locals = 0 := by rw [hR]
  have hl : lv_has ls 1 [(0, .ref (ad 0))] := hl
  have hW : pM G (MWl G ad y ++ W0) s s.heap [] := hW
  obtain ⟨m0, m1, m2, m3, m4, m5, m6, m7, m8, m9, m10, m11, m12, m13, m14, m15, m16, m17, m18, m19, m20, m21, m22⟩ := hMR
  have hI := hS.inv
  have b0 := hI.1.1
  have b1 := hI.2.1.1
  have b2 := hI.2.2.1.1
  have b3 := hI.2.2.2.1.1
  have b4 := hI.2.2.2.2.1.1
  have b5 := hI.2.2.2.2.2
  have b6 := hS.2.1
  have b7 := hS.2.2.1
  have b8 := hS.2.2.2.1
  have b9 := hS.2.2.2.2.1
  refine lv_aload_n hx hb dX4_left_0 rfl (lv_at hl 0 rfl) ?_
  refine lv_iconst (v := 0) hx hb dX4_left_1 (by decide) ?_
  refine pM0_thrown hF hW q1095 dX4_left_2 (fun H locs hW => ?_)
  have hW : pM G (MWl G ad (xi y 0 0) ++ W0) s _ _ := hW
  refine lv_aload_n hx hb dX4_left_5 rfl (lv_at hl 0 rfl) ?_
  refine gM0_leftBits hF hW q1141 (v := S.2.2.2.2.1.2.2.2) (m18) dX4_left_6 ?_
  exact re_i hF hRt hLk hQ (by omega) (by omega) dX4_left_9 (xi y 0 0) (⟨rfl, ⟨m0, m1, m2, m3, m4, m5, m6, m7, m8, m9, m10, m11, m12, m13, m14, m15, m16, m17, m18, m19, m20, m21, m22⟩⟩) hW

set_option maxRecDepth 100000 in
set_option maxHeartbeats 4000000 in
theorem mX4_count (l : Launch) (G : pG) (ad : Nat → Nat) (y : XV) (W0 T : va_W) (hT : ∀ q ∈ T, q ∈ W0) (S : AS) (n9 : Nat) (hS : SOk n9 S) (hn9 : n9 ≤ 64) (hMR : MR G T y S) (a0 : Int32) : Met l yX4_count (ws_ yX4_count cX4_count 2 (some .int)) ({ frames := 0, cells := 0, slots := 0, locals := 0 } : Room) (va_Pc [.ref (ad 0), .int a0] (fun U => pW G (MWl G ad y ++ W0) U)) (va_Qi (fun r (u : XV) => r = ((S, countS S a0)).2 ∧ MR G T u ((S, countS S a0)).1) (fun (u : XV) t9 => pW G (MWl G ad u ++ W0) t9) (pA G)) 0 0 (pA G) := by
  refine mw (by decide) (Nat.le_of_ble_eq_true rfl) ?_
  intro pp ee R s m below meth c ls Q hF hRt hLk hnm hR hQ hW hl
  have hx := hF.1
  have hb := hF.2.1
  have hts := hF.2.2.2.2
  have hR1 : R.frames = 0 := by rw [hR]
  have hR2 : R.cells = 0 := by rw [hR]
  have hR3 : R.slots = 0 := by rw [hR]
  have hR4 : R.locals = 0 := by rw [hR]
  have hl : lv_has ls 2 [(0, .ref (ad 0)), (1, .int a0)] := hl
  have hW : pM G (MWl G ad y ++ W0) s s.heap [] := hW
  obtain ⟨m0, m1, m2, m3, m4, m5, m6, m7, m8, m9, m10, m11, m12, m13, m14, m15, m16, m17, m18, m19, m20, m21, m22⟩ := hMR
  have hI := hS.inv
  have b0 := hI.1.1
  have b1 := hI.2.1.1
  have b2 := hI.2.2.1.1
  have b3 := hI.2.2.2.1.1
  have b4 := hI.2.2.2.2.1.1
  have b5 := hI.2.2.2.2.2
  have b6 := hS.2.1
  have b7 := hS.2.2.1
  have b8 := hS.2.2.2.1
  have b9 := hS.2.2.2.2.1
  refine lv_aload_n hx hb dX4_count_0 rfl (lv_at hl 0 rfl) ?_
  refine lv_iconst (v := 0) hx hb dX4_count_1 (by decide) ?_
  refine pM0_thrown hF hW q1095 dX4_count_2 (fun H locs hW => ?_)
  have hW : pM G (MWl G ad (xi y 0 0) ++ W0) s _ _ := hW
  refine lv_iload_n hx hb dX4_count_5 rfl (lv_at hl 1 rfl) ?_
  by_cases w_6_0 : a0 = 0
  · subst w_6_0
    refine lv_tableIn (tgt := 52) hx hb dX4_count_6 (by decide) (by decide) rfl rfl ?_
    refine lv_aload_n hx hb dX4_count_52 rfl (lv_at hl 0 rfl) ?_
    refine gM0_words hF hW q1099 (v := nI (cW S.1).length) (m0) dX4_count_53 ?_
    exact re_i hF hRt hLk hQ (by omega) (by omega) dX4_count_56 (xi y 0 0) (⟨rfl, ⟨m0, m1, m2, m3, m4, m5, m6, m7, m8, m9, m10, m11, m12, m13, m14, m15, m16, m17, m18, m19, m20, m21, m22⟩⟩) hW
  · by_cases w_6_1 : a0 = 1
    · subst w_6_1
      refine lv_tableIn (tgt := 57) hx hb dX4_count_6 (by decide) (by decide) rfl rfl ?_
      refine lv_aload_n hx hb dX4_count_57 rfl (lv_at hl 0 rfl) ?_
      refine gM0_papers hF hW q1100 (v := nI (cP S.1).length) (m2) dX4_count_58 ?_
      exact re_i hF hRt hLk hQ (by omega) (by omega) dX4_count_61 (xi y 0 0) (⟨rfl, ⟨m0, m1, m2, m3, m4, m5, m6, m7, m8, m9, m10, m11, m12, m13, m14, m15, m16, m17, m18, m19, m20, m21, m22⟩⟩) hW
    · by_cases w_6_2 : a0 = 2
      · subst w_6_2
        refine lv_tableIn (tgt := 62) hx hb dX4_count_6 (by decide) (by decide) rfl rfl ?_
        refine lv_aload_n hx hb dX4_count_62 rfl (lv_at hl 0 rfl) ?_
        refine gM0_files hF hW q1101 (v := nI (cF S.1).length) (m4) dX4_count_63 ?_
        exact re_i hF hRt hLk hQ (by omega) (by omega) dX4_count_66 (xi y 0 0) (⟨rfl, ⟨m0, m1, m2, m3, m4, m5, m6, m7, m8, m9, m10, m11, m12, m13, m14, m15, m16, m17, m18, m19, m20, m21, m22⟩⟩) hW
      · by_cases w_6_3 : a0 = 3
        · subst w_6_3
          refine lv_tableIn (tgt := 67) hx hb dX4_count_6 (by decide) (by decide) rfl rfl ?_
          refine lv_aload_n hx hb dX4_count_67 rfl (lv_at hl 0 rfl) ?_
          refine gM0_things hF hW q1103 (v := nI (cT S.1).length) (m6) dX4_count_68 ?_
          exact re_i hF hRt hLk hQ (by omega) (by omega) dX4_count_71 (xi y 0 0) (⟨rfl, ⟨m0, m1, m2, m3, m4, m5, m6, m7, m8, m9, m10, m11, m12, m13, m14, m15, m16, m17, m18, m19, m20, m21, m22⟩⟩) hW
        · by_cases w_6_4 : a0 = 4
          · subst w_6_4
            refine lv_tableIn (tgt := 72) hx hb dX4_count_6 (by decide) (by decide) rfl rfl ?_
            refine lv_aload_n hx hb dX4_count_72 rfl (lv_at hl 0 rfl) ?_
            refine gM0_claims hF hW q1102 (v := nI (cC S.1).length) (m8) dX4_count_73 ?_
            exact re_i hF hRt hLk hQ (by omega) (by omega) dX4_count_76 (xi y 0 0) (⟨rfl, ⟨m0, m1, m2, m3, m4, m5, m6, m7, m8, m9, m10, m11, m12, m13, m14, m15, m16, m17, m18, m19, m20, m21, m22⟩⟩) hW
          · by_cases w_6_5 : a0 = 5
            · subst w_6_5
              refine lv_tableIn (tgt := 77) hx hb dX4_count_6 (by decide) (by decide) rfl rfl ?_
              refine lv_aload_n hx hb dX4_count_77 rfl (lv_at hl 0 rfl) ?_
              refine gM0_now hF hW q1104 (v := nI (cN S.1)) (m10) dX4_count_78 ?_
              exact re_i hF hRt hLk hQ (by omega) (by omega) dX4_count_81 (xi y 0 0) (⟨rfl, ⟨m0, m1, m2, m3, m4, m5, m6, m7, m8, m9, m10, m11, m12, m13, m14, m15, m16, m17, m18, m19, m20, m21, m22⟩⟩) hW
            · by_cases w_6_6 : a0 = 6
              · subst w_6_6
                refine lv_tableIn (tgt := 82) hx hb dX4_count_6 (by decide) (by decide) rfl rfl ?_
                refine lv_aload_n hx hb dX4_count_82 rfl (lv_at hl 0 rfl) ?_
                refine gM0_acts hF hW q1124 (v := nI S.2.1.length) (m11) dX4_count_83 ?_
                exact re_i hF hRt hLk hQ (by omega) (by omega) dX4_count_86 (xi y 0 0) (⟨rfl, ⟨m0, m1, m2, m3, m4, m5, m6, m7, m8, m9, m10, m11, m12, m13, m14, m15, m16, m17, m18, m19, m20, m21, m22⟩⟩) hW
              · by_cases w_6_7 : a0 = 7
                · subst w_6_7
                  refine lv_tableIn (tgt := 87) hx hb dX4_count_6 (by decide) (by decide) rfl rfl ?_
                  refine lv_aload_n hx hb dX4_count_87 rfl (lv_at hl 0 rfl) ?_
                  refine gM0_taped hF hW q1127 (v := nI S.2.2.2.1) (m13) dX4_count_88 ?_
                  exact re_i hF hRt hLk hQ (by omega) (by omega) dX4_count_91 (xi y 0 0) (⟨rfl, ⟨m0, m1, m2, m3, m4, m5, m6, m7, m8, m9, m10, m11, m12, m13, m14, m15, m16, m17, m18, m19, m20, m21, m22⟩⟩) hW
                · refine lv_tableOut (tgt := 92) hx hb dX4_count_6 (sw_o (hi := 7) (fun k9 h9 => by match k9, h9 with | 0, _ => exact w_6_0 | 1, _ => exact w_6_1 | 2, _ => exact w_6_2 | 3, _ => exact w_6_3 | 4, _ => exact w_6_4 | 5, _ => exact w_6_5 | 6, _ => exact w_6_6 | 7, _ => exact w_6_7)) rfl ?_
                  refine lv_iconst (v := (-1)) hx hb dX4_count_92 (by decide) ?_
                  exact re_i hF hRt hLk hQ (by omega) (by omega) dX4_count_93 (xi y 0 0) (⟨by unfold countS; rw [if_neg w_6_0, if_neg w_6_1, if_neg w_6_2, if_neg w_6_3, if_neg w_6_4, if_neg w_6_5, if_neg w_6_6, if_neg w_6_7], ⟨m0, m1, m2, m3, m4, m5, m6, m7, m8, m9, m10, m11, m12, m13, m14, m15, m16, m17, m18, m19, m20, m21, m22⟩⟩) hW

set_option maxRecDepth 100000 in
set_option maxHeartbeats 4000000 in
theorem mX4_part (l : Launch) (G : pG) (ad : Nat → Nat) (y : XV) (W0 T : va_W) (hT : ∀ q ∈ T, q ∈ W0) (S : AS) (n9 : Nat) (hS : SOk n9 S) (hn9 : n9 ≤ 64) (hMR : MR G T y S) (a0 : Int32) : Met l yX4_part (ws_ yX4_part cX4_part 2 (some .int)) ({ frames := 0, cells := 0, slots := 0, locals := 0 } : Room) (va_Pc [.ref (ad 0), .int a0] (fun U => pW G (MWl G ad y ++ W0) U)) (va_Qi (fun r (u : XV) => r = ((S, partS S a0)).2 ∧ MR G T u ((S, partS S a0)).1) (fun (u : XV) t9 => pW G (MWl G ad u ++ W0) t9) (pA G)) 0 0 (pA G) := by
  refine mw (by decide) (Nat.le_of_ble_eq_true rfl) ?_
  intro pp ee R s m below meth c ls Q hF hRt hLk hnm hR hQ hW hl
  have hx := hF.1
  have hb := hF.2.1
  have hts := hF.2.2.2.2
  have hR1 : R.frames = 0 := by rw [hR]
  have hR2 : R.cells = 0 := by rw [hR]
  have hR3 : R.slots = 0 := by rw [hR]
  have hR4 : R.locals = 0 := by rw [hR]
  have hl : lv_has ls 2 [(0, .ref (ad 0)), (1, .int a0)] := hl
  have hW : pM G (MWl G ad y ++ W0) s s.heap [] := hW
  obtain ⟨m0, m1, m2, m3, m4, m5, m6, m7, m8, m9, m10, m11, m12, m13, m14, m15, m16, m17, m18, m19, m20, m21, m22⟩ := hMR
  have hI := hS.inv
  have b0 := hI.1.1
  have b1 := hI.2.1.1
  have b2 := hI.2.2.1.1
  have b3 := hI.2.2.2.1.1
  have b4 := hI.2.2.2.2.1.1
  have b5 := hI.2.2.2.2.2
  have b6 := hS.2.1
  have b7 := hS.2.2.1
  have b8 := hS.2.2.2.1
  have b9 := hS.2.2.2.2.1
  cases hi0 : ix a0 S.2.2.2.2.2.1.length with
  | none =>
    refine lv_aload_n hx hb dX4_part_0 rfl (lv_at hl 0 rfl) ?_
    refine lv_iconst (v := 0) hx hb dX4_part_1 (by decide) ?_
    refine pM0_thrown hF hW q1095 dX4_part_2 (fun H locs hW => ?_)
    have hW : pM G (MWl G ad (xi y 0 0) ++ W0) s _ _ := hW
    refine lv_iload_n hx hb dX4_part_5 rfl (lv_at hl 1 rfl) ?_
    refine lv_if_lt (tgt := 26) hx hb dX4_part_6 (by decide) (fun c_6 => ?_) (fun c_6 => ?_)
    · refine lv_iconst (v := (-1)) hx hb dX4_part_26 (by decide) ?_
      exact re_i hF hRt hLk hQ (by omega) (by omega) dX4_part_27 (xi y 0 0) (⟨by unfold partS; rw [hi0], ⟨m0, m1, m2, m3, m4, m5, m6, m7, m8, m9, m10, m11, m12, m13, m14, m15, m16, m17, m18, m19, m20, m21, m22⟩⟩) hW
    · refine lv_iload_n hx hb dX4_part_9 rfl (lv_at hl 1 rfl) ?_
      refine lv_aload_n hx hb dX4_part_10 rfl (lv_at hl 0 rfl) ?_
      refine gM0_wayParts hF hW q1137 (v := nI S.2.2.2.2.2.1.length) (m19) dX4_part_11 ?_
      refine lv_icmp_ge (tgt := 26) hx hb dX4_part_14 (by decide) (fun c_14 => ?_) (fun c_14 => absurd (And.intro (Int32.not_lt.mp c_6) (Int32.not_le.mp c_14)) (ix_no hi0))
      refine lv_iconst (v := (-1)) hx hb dX4_part_26 (by decide) ?_
      exact re_i hF hRt hLk hQ (by omega) (by omega) dX4_part_27 (xi y 0 0) (⟨by unfold partS; rw [hi0], ⟨m0, m1, m2, m3, m4, m5, m6, m7, m8, m9, m10, m11, m12, m13, m14, m15, m16, m17, m18, m19, m20, m21, m22⟩⟩) hW
  | some k0 =>
    obtain ⟨hk0, rfl⟩ := ix_some hi0 (by omega)
    refine lv_aload_n hx hb dX4_part_0 rfl (lv_at hl 0 rfl) ?_
    refine lv_iconst (v := 0) hx hb dX4_part_1 (by decide) ?_
    refine pM0_thrown hF hW q1095 dX4_part_2 (fun H locs hW => ?_)
    have hW : pM G (MWl G ad (xi y 0 0) ++ W0) s _ _ := hW
    refine lv_iload_n hx hb dX4_part_5 rfl (lv_at hl 1 rfl) ?_
    refine lv_if_lt (tgt := 26) hx hb dX4_part_6 (by decide) (fun c_6 => absurd c_6 (nI_pos (by omega))) (fun c_6 => ?_)
    refine lv_iload_n hx hb dX4_part_9 rfl (lv_at hl 1 rfl) ?_
    refine lv_aload_n hx hb dX4_part_10 rfl (lv_at hl 0 rfl) ?_
    refine gM0_wayParts hF hW q1137 (v := nI S.2.2.2.2.2.1.length) (m19) dX4_part_11 ?_
    refine lv_icmp_ge (tgt := 26) hx hb dX4_part_14 (by decide) (fun c_14 => absurd (le_le c_14) (by omega)) (fun c_14 => ?_)
    refine lv_aload_n hx hb dX4_part_17 rfl (lv_at hl 0 rfl) ?_
    refine gM0_told hF hW q1138 dX4_part_18 ?_
    refine lv_iload_n hx hb dX4_part_21 rfl (lv_at hl 1 rfl) ?_
    refine lM24 hF hW (j := k0) (rfl) (by omega) (v := nI (S.2.2.2.2.2.1.getD k0 0)) (m20 k0 hk0) dX4_part_22 ?_
    refine lv_goto (tgt := 27) hx hb dX4_part_23 (by decide) ?_
    exact re_i hF hRt hLk hQ (by omega) (by omega) dX4_part_27 (xi y 0 0) (⟨by unfold partS; rw [hi0], ⟨m0, m1, m2, m3, m4, m5, m6, m7, m8, m9, m10, m11, m12, m13, m14, m15, m16, m17, m18, m19, m20, m21, m22⟩⟩) hW

set_option maxRecDepth 100000 in
set_option maxHeartbeats 4000000 in
theorem mX4_fallen (l : Launch) (G : pG) (ad : Nat → Nat) (y : XV) (W0 T : va_W) (hT : ∀ q ∈ T, q ∈ W0) (S : AS) (n9 : Nat) (hS : SOk n9 S) (hn9 : n9 ≤ 64) (hMR : MR G T y S) (a0 : Int32) : Met l yX4_fallen (ws_ yX4_fallen cX4_fallen 2 (some .int)) ({ frames := 0, cells := 0, slots := 0, locals := 0 } : Room) (va_Pc [.ref (ad 0), .int a0] (fun U => pW G (MWl G ad y ++ W0) U)) (va_Qi (fun r (u : XV) => r = ((S, fallenS S a0)).2 ∧ MR G T u ((S, fallenS S a0)).1) (fun (u : XV) t9 => pW G (MWl G ad u ++ W0) t9) (pA G)) 0 0 (pA G) := by
  refine mw (by decide) (Nat.le_of_ble_eq_true rfl) ?_
  intro pp ee R s m below meth c ls Q hF hRt hLk hnm hR hQ hW hl
  have hx := hF.1
  have hb := hF.2.1
  have hts := hF.2.2.2.2
  have hR1 : R.frames = 0 := by rw [hR]
  have hR2 : R.cells = 0 := by rw [hR]
  have hR3 : R.slots = 0 := by rw [hR]
  have hR4 : R.locals = 0 := by rw [hR]
  have hl : lv_has ls 2 [(0, .ref (ad 0)), (1, .int a0)] := hl
  have hW : pM G (MWl G ad y ++ W0) s s.heap [] := hW
  obtain ⟨m0, m1, m2, m3, m4, m5, m6, m7, m8, m9, m10, m11, m12, m13, m14, m15, m16, m17, m18, m19, m20, m21, m22⟩ := hMR
  have hI := hS.inv
  have b0 := hI.1.1
  have b1 := hI.2.1.1
  have b2 := hI.2.2.1.1
  have b3 := hI.2.2.2.1.1
  have b4 := hI.2.2.2.2.1.1
  have b5 := hI.2.2.2.2.2
  have b6 := hS.2.1
  have b7 := hS.2.2.1
  have b8 := hS.2.2.2.1
  have b9 := hS.2.2.2.2.1
  cases hi0 : ix a0 S.2.2.2.2.2.2.length with
  | none =>
    refine lv_aload_n hx hb dX4_fallen_0 rfl (lv_at hl 0 rfl) ?_
    refine lv_iconst (v := 0) hx hb dX4_fallen_1 (by decide) ?_
    refine pM0_thrown hF hW q1095 dX4_fallen_2 (fun H locs hW => ?_)
    have hW : pM G (MWl G ad (xi y 0 0) ++ W0) s _ _ := hW
    refine lv_iload_n hx hb dX4_fallen_5 rfl (lv_at hl 1 rfl) ?_
    refine lv_if_lt (tgt := 26) hx hb dX4_fallen_6 (by decide) (fun c_6 => ?_) (fun c_6 => ?_)
    · refine lv_iconst (v := (-1)) hx hb dX4_fallen_26 (by decide) ?_
      exact re_i hF hRt hLk hQ (by omega) (by omega) dX4_fallen_27 (xi y 0 0) (⟨by unfold fallenS; rw [hi0], ⟨m0, m1, m2, m3, m4, m5, m6, m7, m8, m9, m10, m11, m12, m13, m14, m15, m16, m17, m18, m19, m20, m21, m22⟩⟩) hW
    · refine lv_iload_n hx hb dX4_fallen_9 rfl (lv_at hl 1 rfl) ?_
      refine lv_aload_n hx hb dX4_fallen_10 rfl (lv_at hl 0 rfl) ?_
      refine gM0_falls hF hW q1143 (v := nI S.2.2.2.2.2.2.length) (m21) dX4_fallen_11 ?_
      refine lv_icmp_ge (tgt := 26) hx hb dX4_fallen_14 (by decide) (fun c_14 => ?_) (fun c_14 => absurd (And.intro (Int32.not_lt.mp c_6) (Int32.not_le.mp c_14)) (ix_no hi0))
      refine lv_iconst (v := (-1)) hx hb dX4_fallen_26 (by decide) ?_
      exact re_i hF hRt hLk hQ (by omega) (by omega) dX4_fallen_27 (xi y 0 0) (⟨by unfold fallenS; rw [hi0], ⟨m0, m1, m2, m3, m4, m5, m6, m7, m8, m9, m10, m11, m12, m13, m14, m15, m16, m17, m18, m19, m20, m21, m22⟩⟩) hW
  | some k0 =>
    obtain ⟨hk0, rfl⟩ := ix_some hi0 (by omega)
    refine lv_aload_n hx hb dX4_fallen_0 rfl (lv_at hl 0 rfl) ?_
    refine lv_iconst (v := 0) hx hb dX4_fallen_1 (by decide) ?_
    refine pM0_thrown hF hW q1095 dX4_fallen_2 (fun H locs hW => ?_)
    have hW : pM G (MWl G ad (xi y 0 0) ++ W0) s _ _ := hW
    refine lv_iload_n hx hb dX4_fallen_5 rfl (lv_at hl 1 rfl) ?_
    refine lv_if_lt (tgt := 26) hx hb dX4_fallen_6 (by decide) (fun c_6 => absurd c_6 (nI_pos (by omega))) (fun c_6 => ?_)
    refine lv_iload_n hx hb dX4_fallen_9 rfl (lv_at hl 1 rfl) ?_
    refine lv_aload_n hx hb dX4_fallen_10 rfl (lv_at hl 0 rfl) ?_
    refine gM0_falls hF hW q1143 (v := nI S.2.2.2.2.2.2.length) (m21) dX4_fallen_11 ?_
    refine lv_icmp_ge (tgt := 26) hx hb dX4_fallen_14 (by decide) (fun c_14 => absurd (le_le c_14) (by omega)) (fun c_14 => ?_)
    refine lv_aload_n hx hb dX4_fallen_17 rfl (lv_at hl 0 rfl) ?_
    refine gM0_fallen hF hW q1142 dX4_fallen_18 ?_
    refine lv_iload_n hx hb dX4_fallen_21 rfl (lv_at hl 1 rfl) ?_
    refine lM25 hF hW (j := k0) (rfl) (by omega) (v := nI (S.2.2.2.2.2.2.getD k0 0)) (m22 k0 hk0) dX4_fallen_22 ?_
    refine lv_goto (tgt := 27) hx hb dX4_fallen_23 (by decide) ?_
    exact re_i hF hRt hLk hQ (by omega) (by omega) dX4_fallen_27 (xi y 0 0) (⟨by unfold fallenS; rw [hi0], ⟨m0, m1, m2, m3, m4, m5, m6, m7, m8, m9, m10, m11, m12, m13, m14, m15, m16, m17, m18, m19, m20, m21, m22⟩⟩) hW

set_option maxRecDepth 100000 in
set_option maxHeartbeats 4000000 in
theorem mX4_under (l : Launch) (G : pG) (ad : Nat → Nat) (y : XV) (W0 T : va_W) (hT : ∀ q ∈ T, q ∈ W0) (S : AS) (n9 : Nat) (hS : SOk n9 S) (hn9 : n9 ≤ 64) (hMR : MR G T y S) (a0 a1 : Int32) : Met l yX4_under (ws_ yX4_under cX4_under 3 (some .int)) ({ frames := 1, cells := 0, slots := 0, locals := 23 } : Room) (va_Pc [.ref (ad 0), .int a0, .int a1] (fun U => pW G (MWl G ad y ++ W0) U)) (va_Qi (fun r (u : XV) => r = ((S, underS S a0 a1)).2 ∧ MR G T u ((S, underS S a0 a1)).1) (fun (u : XV) t9 => pW G (MWl G ad u ++ W0) t9) (pA G)) 0 0 (pA G) := by
  refine mw (by decide) (Nat.le_of_ble_eq_true rfl) ?_
  intro pp ee R s m below meth c ls Q hF hRt hLk hnm hR hQ hW hl
  have hx := hF.1
  have hb := hF.2.1
  have hts := hF.2.2.2.2
  have hR1 : R.frames = 1 := by rw [hR]
  have hR2 : R.cells = 0 := by rw [hR]
  have hR3 : R.slots = 0 := by rw [hR]
  have hR4 : R.locals = 23 := by rw [hR]
  have hl : lv_has ls 3 [(0, .ref (ad 0)), (1, .int a0), (2, .int a1)] := hl
  have hW : pM G (MWl G ad y ++ W0) s s.heap [] := hW
  obtain ⟨m0, m1, m2, m3, m4, m5, m6, m7, m8, m9, m10, m11, m12, m13, m14, m15, m16, m17, m18, m19, m20, m21, m22⟩ := hMR
  have hI := hS.inv
  have b0 := hI.1.1
  have b1 := hI.2.1.1
  have b2 := hI.2.2.1.1
  have b3 := hI.2.2.2.1.1
  have b4 := hI.2.2.2.2.1.1
  have b5 := hI.2.2.2.2.2
  have b6 := hS.2.1
  have b7 := hS.2.2.1
  have b8 := hS.2.2.2.1
  have b9 := hS.2.2.2.2.1
  cases hi0 : ix a0 (cW S.1).length with
  | none =>
    cases hi1 : ix a1 (cW S.1).length with
    | none =>
      refine lv_aload_n hx hb dX4_under_0 rfl (lv_at hl 0 rfl) ?_
      refine lv_iconst (v := 0) hx hb dX4_under_1 (by decide) ?_
      refine pM0_thrown hF hW q1095 dX4_under_2 (fun H locs hW => ?_)
      have hW : pM G (MWl G ad (xi y 0 0) ++ W0) s _ _ := hW
      refine lv_aload_n hx hb dX4_under_5 rfl (lv_at hl 0 rfl) ?_
      refine lv_iload_n hx hb dX4_under_6 rfl (lv_at hl 1 rfl) ?_
      refine cl_i (ru_V (As := [.int a0]) (rest := []) hF (mX4_isWord l G ad (xi y 0 0) W0 a0) (cwV 1 hts (lw_V q1295 q1297 qs37 q66 q1298) rfl rfl rfl (by decide +kernel) ⟨lb hR1 rfl, lb hR4 rfl⟩) hW (List.mem_of_getElem? (i := 0) rfl) (ci := 20) rfl rfl rfl hl.1 rfl (lv_room (Nat.le_of_ble_eq_true rfl)) dX4_under_7 ⟨by omega, by omega⟩) hW (fun r_ u_ H locs h_ hW => ?_)
      have hW : pM G (MWl G ad (xi y 0 0) ++ W0) s _ _ := hW
      rcases h_ with ⟨rfl, h_⟩ | ⟨rfl, h_⟩
      · exact absurd h_ (fun z => ix_no hi0 (by rw [show (xi y 0 0).1 4 = nI (cW S.1).length from m0] at z; exact z))
      · refine lv_if_eq (tgt := 38) hx hb dX4_under_10 (by decide) (fun c_10 => ?_) (fun c_10 => absurd c_10 (by decide))
        refine lv_iconst (v := (-1)) hx hb dX4_under_38 (by decide) ?_
        exact re_i hF hRt hLk hQ (by omega) (by omega) dX4_under_39 (xi y 0 0) (⟨by unfold underS; rw [hi0], ⟨m0, m1, m2, m3, m4, m5, m6, m7, m8, m9, m10, m11, m12, m13, m14, m15, m16, m17, m18, m19, m20, m21, m22⟩⟩) hW
    | some k1 =>
      obtain ⟨hk1, rfl⟩ := ix_some hi1 (by omega)
      refine lv_aload_n hx hb dX4_under_0 rfl (lv_at hl 0 rfl) ?_
      refine lv_iconst (v := 0) hx hb dX4_under_1 (by decide) ?_
      refine pM0_thrown hF hW q1095 dX4_under_2 (fun H locs hW => ?_)
      have hW : pM G (MWl G ad (xi y 0 0) ++ W0) s _ _ := hW
      refine lv_aload_n hx hb dX4_under_5 rfl (lv_at hl 0 rfl) ?_
      refine lv_iload_n hx hb dX4_under_6 rfl (lv_at hl 1 rfl) ?_
      refine cl_i (ru_V (As := [.int a0]) (rest := []) hF (mX4_isWord l G ad (xi y 0 0) W0 a0) (cwV 1 hts (lw_V q1295 q1297 qs37 q66 q1298) rfl rfl rfl (by decide +kernel) ⟨lb hR1 rfl, lb hR4 rfl⟩) hW (List.mem_of_getElem? (i := 0) rfl) (ci := 20) rfl rfl rfl hl.1 rfl (lv_room (Nat.le_of_ble_eq_true rfl)) dX4_under_7 ⟨by omega, by omega⟩) hW (fun r_ u_ H locs h_ hW => ?_)
      have hW : pM G (MWl G ad (xi y 0 0) ++ W0) s _ _ := hW
      rcases h_ with ⟨rfl, h_⟩ | ⟨rfl, h_⟩
      · exact absurd h_ (fun z => ix_no hi0 (by rw [show (xi y 0 0).1 4 = nI (cW S.1).length from m0] at z; exact z))
      · refine lv_if_eq (tgt := 38) hx hb dX4_under_10 (by decide) (fun c_10 => ?_) (fun c_10 => absurd c_10 (by decide))
        refine lv_iconst (v := (-1)) hx hb dX4_under_38 (by decide) ?_
        exact re_i hF hRt hLk hQ (by omega) (by omega) dX4_under_39 (xi y 0 0) (⟨by unfold underS; rw [hi0], ⟨m0, m1, m2, m3, m4, m5, m6, m7, m8, m9, m10, m11, m12, m13, m14, m15, m16, m17, m18, m19, m20, m21, m22⟩⟩) hW
  | some k0 =>
    obtain ⟨hk0, rfl⟩ := ix_some hi0 (by omega)
    cases hi1 : ix a1 (cW S.1).length with
    | none =>
      refine lv_aload_n hx hb dX4_under_0 rfl (lv_at hl 0 rfl) ?_
      refine lv_iconst (v := 0) hx hb dX4_under_1 (by decide) ?_
      refine pM0_thrown hF hW q1095 dX4_under_2 (fun H locs hW => ?_)
      have hW : pM G (MWl G ad (xi y 0 0) ++ W0) s _ _ := hW
      refine lv_aload_n hx hb dX4_under_5 rfl (lv_at hl 0 rfl) ?_
      refine lv_iload_n hx hb dX4_under_6 rfl (lv_at hl 1 rfl) ?_
      refine cl_i (ru_V (As := [.int (nI k0)]) (rest := []) hF (mX4_isWord l G ad (xi y 0 0) W0 (nI k0)) (cwV 1 hts (lw_V q1295 q1297 qs37 q66 q1298) rfl rfl rfl (by decide +kernel) ⟨lb hR1 rfl, lb hR4 rfl⟩) hW (List.mem_of_getElem? (i := 0) rfl) (ci := 20) rfl rfl rfl hl.1 rfl (lv_room (Nat.le_of_ble_eq_true rfl)) dX4_under_7 ⟨by omega, by omega⟩) hW (fun r_ u_ H locs h_ hW => ?_)
      have hW : pM G (MWl G ad (xi y 0 0) ++ W0) s _ _ := hW
      rcases h_ with ⟨rfl, h_⟩ | ⟨rfl, h_⟩
      · refine lv_if_eq (tgt := 38) hx hb dX4_under_10 (by decide) (fun c_10 => absurd c_10 (by decide)) (fun c_10 => ?_)
        refine lv_aload_n hx hb dX4_under_13 rfl (lv_at hl 0 rfl) ?_
        refine lv_iload_n hx hb dX4_under_14 rfl (lv_at hl 2 rfl) ?_
        refine cl_i (ru_V (As := [.int a1]) (rest := []) hF (mX4_isWord l G ad (xi y 0 0) W0 a1) (cwV 1 hts (lw_V q1295 q1297 qs37 q66 q1298) rfl rfl rfl (by decide +kernel) ⟨lb hR1 rfl, lb hR4 rfl⟩) hW (List.mem_of_getElem? (i := 0) rfl) (ci := 20) rfl rfl rfl hl.1 rfl (lv_room (Nat.le_of_ble_eq_true rfl)) dX4_under_15 ⟨by omega, by omega⟩) hW (fun r_ u_ H locs h_ hW => ?_)
        have hW : pM G (MWl G ad (xi y 0 0) ++ W0) s _ _ := hW
        rcases h_ with ⟨rfl, h_⟩ | ⟨rfl, h_⟩
        · exact absurd h_ (fun z => ix_no hi1 (by rw [show (xi y 0 0).1 4 = nI (cW S.1).length from m0] at z; exact z))
        · refine lv_if_eq (tgt := 38) hx hb dX4_under_18 (by decide) (fun c_18 => ?_) (fun c_18 => absurd c_18 (by decide))
          refine lv_iconst (v := (-1)) hx hb dX4_under_38 (by decide) ?_
          exact re_i hF hRt hLk hQ (by omega) (by omega) dX4_under_39 (xi y 0 0) (⟨by unfold underS; rw [hi0, hi1], ⟨m0, m1, m2, m3, m4, m5, m6, m7, m8, m9, m10, m11, m12, m13, m14, m15, m16, m17, m18, m19, m20, m21, m22⟩⟩) hW
      · exact absurd ((by rw [show (xi y 0 0).1 4 = nI (cW S.1).length from m0]; exact ix_in hi0 : 0 ≤ (nI k0) ∧ (nI k0) < (xi y 0 0).1 4)) h_
    | some k1 =>
      obtain ⟨hk1, rfl⟩ := ix_some hi1 (by omega)
      refine lv_aload_n hx hb dX4_under_0 rfl (lv_at hl 0 rfl) ?_
      refine lv_iconst (v := 0) hx hb dX4_under_1 (by decide) ?_
      refine pM0_thrown hF hW q1095 dX4_under_2 (fun H locs hW => ?_)
      have hW : pM G (MWl G ad (xi y 0 0) ++ W0) s _ _ := hW
      refine lv_aload_n hx hb dX4_under_5 rfl (lv_at hl 0 rfl) ?_
      refine lv_iload_n hx hb dX4_under_6 rfl (lv_at hl 1 rfl) ?_
      refine cl_i (ru_V (As := [.int (nI k0)]) (rest := []) hF (mX4_isWord l G ad (xi y 0 0) W0 (nI k0)) (cwV 1 hts (lw_V q1295 q1297 qs37 q66 q1298) rfl rfl rfl (by decide +kernel) ⟨lb hR1 rfl, lb hR4 rfl⟩) hW (List.mem_of_getElem? (i := 0) rfl) (ci := 20) rfl rfl rfl hl.1 rfl (lv_room (Nat.le_of_ble_eq_true rfl)) dX4_under_7 ⟨by omega, by omega⟩) hW (fun r_ u_ H locs h_ hW => ?_)
      have hW : pM G (MWl G ad (xi y 0 0) ++ W0) s _ _ := hW
      rcases h_ with ⟨rfl, h_⟩ | ⟨rfl, h_⟩
      · refine lv_if_eq (tgt := 38) hx hb dX4_under_10 (by decide) (fun c_10 => absurd c_10 (by decide)) (fun c_10 => ?_)
        refine lv_aload_n hx hb dX4_under_13 rfl (lv_at hl 0 rfl) ?_
        refine lv_iload_n hx hb dX4_under_14 rfl (lv_at hl 2 rfl) ?_
        refine cl_i (ru_V (As := [.int (nI k1)]) (rest := []) hF (mX4_isWord l G ad (xi y 0 0) W0 (nI k1)) (cwV 1 hts (lw_V q1295 q1297 qs37 q66 q1298) rfl rfl rfl (by decide +kernel) ⟨lb hR1 rfl, lb hR4 rfl⟩) hW (List.mem_of_getElem? (i := 0) rfl) (ci := 20) rfl rfl rfl hl.1 rfl (lv_room (Nat.le_of_ble_eq_true rfl)) dX4_under_15 ⟨by omega, by omega⟩) hW (fun r_ u_ H locs h_ hW => ?_)
        have hW : pM G (MWl G ad (xi y 0 0) ++ W0) s _ _ := hW
        rcases h_ with ⟨rfl, h_⟩ | ⟨rfl, h_⟩
        · refine lv_if_eq (tgt := 38) hx hb dX4_under_18 (by decide) (fun c_18 => absurd c_18 (by decide)) (fun c_18 => ?_)
          refine lv_aload_n hx hb dX4_under_21 rfl (lv_at hl 0 rfl) ?_
          refine lv_iload_n hx hb dX4_under_22 rfl (lv_at hl 1 rfl) ?_
          refine lv_iload_n hx hb dX4_under_23 rfl (lv_at hl 2 rfl) ?_
          refine cl_i (ru_V (As := [.int (nI k0), .int (nI k1)]) (rest := []) hF (mX4_isUnder l G ad (xi y 0 0) W0 k0 k1 (cW S.1).length (WdOk.cg m1.2 (wdF_ok hI)) b0 hk0 (by omega)) (cwV 2 hts (lw_V q1299 q1301 qs38 q66 q1302) rfl rfl rfl (by decide +kernel) ⟨lb hR1 rfl, lb hR4 rfl⟩) hW (List.mem_of_getElem? (i := 0) rfl) (ci := 20) rfl rfl rfl hl.1 rfl (lv_room (Nat.le_of_ble_eq_true rfl)) dX4_under_24 ⟨by omega, by omega⟩) hW (fun r_1 u_2 H locs h_3 hW => ?_)
          have hW : pM G (MWl G ad (xi y 0 0) ++ W0) s _ _ := hW
          rcases h_3 with ⟨rfl, b_24⟩ | ⟨rfl, b_24⟩
          · refine lv_if_eq (tgt := 34) hx hb dX4_under_27 (by decide) (fun c_27 => absurd c_27 (by decide)) (fun c_27 => ?_)
            refine lv_iconst (v := 1) hx hb dX4_under_30 (by decide) ?_
            refine lv_goto (tgt := 39) hx hb dX4_under_31 (by decide) ?_
            exact re_i hF hRt hLk hQ (by omega) (by omega) dX4_under_39 (xi y 0 0) (⟨by unfold underS; rw [hi0, hi1]; dsimp only; rw [← und_eq (wd := wdF S.1) m1.2 (wdF_ok hI) b0 hk0, show underB (y.2.1 0) k0 k1 = true from b_24]; rfl, ⟨m0, m1, m2, m3, m4, m5, m6, m7, m8, m9, m10, m11, m12, m13, m14, m15, m16, m17, m18, m19, m20, m21, m22⟩⟩) hW
          · refine lv_if_eq (tgt := 34) hx hb dX4_under_27 (by decide) (fun c_27 => ?_) (fun c_27 => absurd c_27 (by decide))
            refine lv_iconst (v := 0) hx hb dX4_under_34 (by decide) ?_
            refine lv_goto (tgt := 39) hx hb dX4_under_35 (by decide) ?_
            exact re_i hF hRt hLk hQ (by omega) (by omega) dX4_under_39 (xi y 0 0) (⟨by unfold underS; rw [hi0, hi1]; dsimp only; rw [← und_eq (wd := wdF S.1) m1.2 (wdF_ok hI) b0 hk0, show underB (y.2.1 0) k0 k1 = false from b_24]; rfl, ⟨m0, m1, m2, m3, m4, m5, m6, m7, m8, m9, m10, m11, m12, m13, m14, m15, m16, m17, m18, m19, m20, m21, m22⟩⟩) hW
        · exact absurd ((by rw [show (xi y 0 0).1 4 = nI (cW S.1).length from m0]; exact ix_in hi1 : 0 ≤ (nI k1) ∧ (nI k1) < (xi y 0 0).1 4)) h_
      · exact absurd ((by rw [show (xi y 0 0).1 4 = nI (cW S.1).length from m0]; exact ix_in hi0 : 0 ≤ (nI k0) ∧ (nI k0) < (xi y 0 0).1 4)) h_

set_option maxRecDepth 100000 in
set_option maxHeartbeats 4000000 in
theorem mX4_pass (l : Launch) (G : pG) (ad : Nat → Nat) (y : XV) (W0 T : va_W) (hT : ∀ q ∈ T, q ∈ W0) (S : AS) (n9 : Nat) (hS : SOk n9 S) (hn9 : n9 ≤ 64) (hMR : MR G T y S) (a0 : Int32) : Met l yX4_pass (ws_ yX4_pass cX4_pass 2 (some .int)) ({ frames := 1, cells := 0, slots := 0, locals := 24 } : Room) (va_Pc [.ref (ad 0), .int a0] (fun U => pW G (MWl G ad y ++ W0) U)) (va_Qi (fun r (u : XV) => r = (passS S a0).2 ∧ MR G T u (passS S a0).1) (fun (u : XV) t9 => pW G (MWl G ad u ++ W0) t9) (pA G)) 0 0 (pA G) := by
  refine mw (by decide) (Nat.le_of_ble_eq_true rfl) ?_
  intro pp ee R s m below meth c ls Q hF hRt hLk hnm hR hQ hW hl
  have hx := hF.1
  have hb := hF.2.1
  have hts := hF.2.2.2.2
  have hR1 : R.frames = 1 := by rw [hR]
  have hR2 : R.cells = 0 := by rw [hR]
  have hR3 : R.slots = 0 := by rw [hR]
  have hR4 : R.locals = 24 := by rw [hR]
  have hl : lv_has ls 2 [(0, .ref (ad 0)), (1, .int a0)] := hl
  have hW : pM G (MWl G ad y ++ W0) s s.heap [] := hW
  obtain ⟨m0, m1, m2, m3, m4, m5, m6, m7, m8, m9, m10, m11, m12, m13, m14, m15, m16, m17, m18, m19, m20, m21, m22⟩ := hMR
  have hI := hS.inv
  have b0 := hI.1.1
  have b1 := hI.2.1.1
  have b2 := hI.2.2.1.1
  have b3 := hI.2.2.2.1.1
  have b4 := hI.2.2.2.2.1.1
  have b5 := hI.2.2.2.2.2
  have b6 := hS.2.1
  have b7 := hS.2.2.1
  have b8 := hS.2.2.2.1
  have b9 := hS.2.2.2.2.1
  refine lv_aload_n hx hb dX4_pass_0 rfl (lv_at hl 0 rfl) ?_
  refine lv_iconst (v := 0) hx hb dX4_pass_1 (by decide) ?_
  refine pM0_thrown hF hW q1095 dX4_pass_2 (fun H locs hW => ?_)
  have hW : pM G (MWl G ad (xi y 0 0) ++ W0) s _ _ := hW
  refine lv_iload_n hx hb dX4_pass_5 rfl (lv_at hl 1 rfl) ?_
  refine lv_iconst (v := 1) hx hb dX4_pass_6 (by decide) ?_
  refine lv_sipush (v := 5000) hx hb dX4_pass_7 (by decide) ?_
  refine cl_i (ru_S (As := [.int a0, .int 1, .int 5000]) (rest := []) hF (mX4_in l G (MWl G ad (xi y 0 0) ++ W0) a0 1 5000) (va_cwS 3 hts (lw_S q1307 q1308 q66 q1309) rfl rfl rfl (by decide +kernel) ⟨lb hR1 rfl, lb hR4 rfl⟩) hW rfl rfl hl.1 rfl (lv_room (Nat.le_of_ble_eq_true rfl)) dX4_pass_10 ⟨by omega, by omega⟩) hW (fun r_1 u_2 H locs h_3 hW => ?_)
  have hW : pM G (MWl G ad (xi y 0 0) ++ W0) s _ _ := hW
  rcases h_3 with ⟨rfl, b_10⟩ | ⟨rfl, b_10⟩
  · refine lv_if_eq (tgt := 28) hx hb dX4_pass_13 (by decide) (fun c_13 => absurd c_13 (by decide)) (fun c_13 => ?_)
    obtain ⟨e1, e2, e3⟩ := clam b_10
    refine lv_aload_n hx hb dX4_pass_16 rfl (lv_at hl 0 rfl) ?_
    refine gM0_now hF hW q1104 (v := nI (cN S.1)) (m10) dX4_pass_17 ?_
    refine lv_iload_n hx hb dX4_pass_20 rfl (lv_at hl 1 rfl) ?_
    refine lv_iadd hx hb dX4_pass_21 ?_
    refine lv_eqi (show (nI (cN S.1)) + a0 = nI (cN S.1 + a0.toNatClampNeg) from by rw [show nI (cN S.1) + a0 = nI (cN S.1) + nI a0.toNatClampNeg by rw [← e3]]; exact nI_add _ _) ?_
    refine lv_sipush (v := 20000) hx hb dX4_pass_22 (by decide) ?_
    refine lv_icmp_le (tgt := 34) hx hb dX4_pass_25 (by decide) (fun c_25 => ?_) (fun c_25 => ?_)
    · have hle : cN S.1 + a0.toNatClampNeg ≤ 20000 := le_le (b := 20000) c_25
      refine lv_aload_n hx hb dX4_pass_34 rfl (lv_at hl 0 rfl) ?_
      refine lv_iconst (v := 1) hx hb dX4_pass_35 (by decide) ?_
      refine lv_aload_n hx hb dX4_pass_36 rfl (lv_at hl 0 rfl) ?_
      refine gM0_now hF hW q1104 (v := nI (cN S.1)) (m10) dX4_pass_37 ?_
      refine lv_null hx hb dX4_pass_40 ?_
      refine cl_v (ru_V (As := [.int 1, .int (nI (cN S.1)), .null]) (rest := []) hF (mX4_act_n l G ad (xi y 0 0) W0 S.2.1.length (by omega) (m11) 1 (nI (cN S.1))) (cwV 3 hts (lw_V q1283 q1285 qs35 q66 q1286) rfl rfl rfl (by decide +kernel) ⟨lb hR1 rfl, lb hR4 rfl⟩) hW (List.mem_of_getElem? (i := 0) rfl) (ci := 20) rfl rfl rfl hl.1 rfl (lv_room (Nat.le_of_ble_eq_true rfl)) dX4_pass_41 ⟨by omega, by omega⟩) hW (fun u_5 H locs h_6 hW => ?_)
      obtain rfl : u_5 = _ := h_6
      have hW : pM G (MWl G ad (xr (xa (xa (xi (xi y 0 0) 10 (nI (S.2.1.length + 1))) 11 (va_up (y.2.1 11) S.2.1.length 1)) 12 (va_up (y.2.1 12) S.2.1.length (nI (cN S.1)))) 4 (va_up (y.2.2.1 4) S.2.1.length none)) ++ W0) s _ _ := hW
      refine lv_aload_n hx hb dX4_pass_44 rfl (lv_at hl 0 rfl) ?_
      refine lv_dup hx hb dX4_pass_45 rfl ?_
      refine gM0_now hF hW q1104 (v := nI (cN S.1)) (m10) dX4_pass_46 ?_
      refine lv_iload_n hx hb dX4_pass_49 rfl (lv_at hl 1 rfl) ?_
      refine lv_iadd hx hb dX4_pass_50 ?_
      refine lv_eqi (show (nI (cN S.1)) + a0 = nI (cN S.1 + a0.toNatClampNeg) from by rw [show nI (cN S.1) + a0 = nI (cN S.1) + nI a0.toNatClampNeg by rw [← e3]]; exact nI_add _ _) ?_
      refine pM0_now hF hW q1104 dX4_pass_51 (fun H locs hW => ?_)
      have hW : pM G (MWl G ad (xr (xa (xa (xi (xi (xi y 0 0) 9 (nI (cN S.1 + a0.toNatClampNeg))) 10 (nI (S.2.1.length + 1))) 11 (va_up (y.2.1 11) S.2.1.length 1)) 12 (va_up (y.2.1 12) S.2.1.length (nI (cN S.1)))) 4 (va_up (y.2.2.1 4) S.2.1.length none)) ++ W0) s _ _ := hW
      refine lv_aload_n hx hb dX4_pass_54 rfl (lv_at hl 0 rfl) ?_
      refine lv_aload_n hx hb dX4_pass_55 rfl (lv_at hl 0 rfl) ?_
      refine gM0_now hF hW q1104 (v := nI (cN S.1 + a0.toNatClampNeg)) (rfl) dX4_pass_56 ?_
      refine cl_i (ru_V (As := [.int (nI (cN S.1 + a0.toNatClampNeg))]) (rest := []) hF (mX4_done l G ad (xr (xa (xa (xi (xi (xi y 0 0) 9 (nI (cN S.1 + a0.toNatClampNeg))) 10 (nI (S.2.1.length + 1))) 11 (va_up (y.2.1 11) S.2.1.length 1)) 12 (va_up (y.2.1 12) S.2.1.length (nI (cN S.1)))) 4 (va_up (y.2.2.1 4) S.2.1.length none)) W0 (nI (cN S.1 + a0.toNatClampNeg))) (cwV 1 hts (lw_V q1287 q1289 qs36 q66 q1290) rfl rfl rfl (by decide +kernel) ⟨lb hR1 rfl, lb hR4 rfl⟩) hW (List.mem_of_getElem? (i := 0) rfl) (ci := 20) rfl rfl rfl hl.1 rfl (lv_room (Nat.le_of_ble_eq_true rfl)) dX4_pass_59 ⟨by omega, by omega⟩) hW (fun r_7 u_8 H locs h_9 hW => ?_)
      obtain ⟨rfl, rfl⟩ : r_7 = nI (cN S.1 + a0.toNatClampNeg) ∧ u_8 = _ := h_9
      have hW : pM G (MWl G ad (xr (xa (xa (xi (xi (xi (xi (xi y 0 0) 1 0) 2 (-1)) 9 (nI (cN S.1 + a0.toNatClampNeg))) 10 (nI (S.2.1.length + 1))) 11 (va_up (y.2.1 11) S.2.1.length 1)) 12 (va_up (y.2.1 12) S.2.1.length (nI (cN S.1)))) 4 (va_up (y.2.2.1 4) S.2.1.length none)) ++ W0) s _ _ := hW
      exact re_i hF hRt hLk hQ (by omega) (by omega) dX4_pass_62 (xr (xa (xa (xi (xi (xi (xi (xi y 0 0) 1 0) 2 (-1)) 9 (nI (cN S.1 + a0.toNatClampNeg))) 10 (nI (S.2.1.length + 1))) 11 (va_up (y.2.1 11) S.2.1.length 1)) 12 (va_up (y.2.1 12) S.2.1.length (nI (cN S.1)))) 4 (va_up (y.2.2.1 4) S.2.1.length none)) (by unfold passS; rw [if_pos ⟨b_10, hle⟩]; exact ⟨rfl, ⟨m0, m1, m2, m3, m4, m5, m6, m7, m8, m9, rfl, rfl, ActM.add (a := (1, cN S.1, a0.toNatClampNeg, nT)) m12 (fun z => nomatch z), m13, m14, rfl, m16, rfl, m18, m19, m20, m21, m22⟩⟩) hW
    · have hle : ¬ cN S.1 + a0.toNatClampNeg ≤ 20000 := fun z => c_25 ((nI_leI (b := 20000) (by omega) (by decide)).mpr z)
      refine lv_aload_n hx hb dX4_pass_28 rfl (lv_at hl 0 rfl) ?_
      refine lv_iconst (v := 2) hx hb dX4_pass_29 (by decide) ?_
      refine cl_i (ru_V (As := [.int 2]) (rest := []) hF (mX4_refused l G ad (xi y 0 0) W0 2) (cwV 1 hts (lw_V q1255 q1257 qs29 q66 q1258) rfl rfl rfl (by decide +kernel) ⟨lb hR1 rfl, lb hR4 rfl⟩) hW (List.mem_of_getElem? (i := 0) rfl) (ci := 20) rfl rfl rfl hl.1 rfl (lv_room (Nat.le_of_ble_eq_true rfl)) dX4_pass_30 ⟨by omega, by omega⟩) hW (fun r_10 u_11 H locs h_12 hW => ?_)
      obtain ⟨rfl, rfl⟩ : r_10 = (-1) ∧ u_11 = _ := h_12
      have hW : pM G (MWl G ad (xi (xi (xi y 0 0) 1 2) 2 (-1)) ++ W0) s _ _ := hW
      exact re_i hF hRt hLk hQ (by omega) (by omega) dX4_pass_33 (xi (xi (xi y 0 0) 1 2) 2 (-1)) (by unfold passS; rw [if_neg (fun z => hle z.2)]; exact ⟨rfl, ⟨m0, m1, m2, m3, m4, m5, m6, m7, m8, m9, m10, m11, m12, m13, m14, rfl, m16, rfl, m18, m19, m20, m21, m22⟩⟩) hW
  · refine lv_if_eq (tgt := 28) hx hb dX4_pass_13 (by decide) (fun c_13 => ?_) (fun c_13 => absurd c_13 (by decide))
    refine lv_aload_n hx hb dX4_pass_28 rfl (lv_at hl 0 rfl) ?_
    refine lv_iconst (v := 2) hx hb dX4_pass_29 (by decide) ?_
    refine cl_i (ru_V (As := [.int 2]) (rest := []) hF (mX4_refused l G ad (xi y 0 0) W0 2) (cwV 1 hts (lw_V q1255 q1257 qs29 q66 q1258) rfl rfl rfl (by decide +kernel) ⟨lb hR1 rfl, lb hR4 rfl⟩) hW (List.mem_of_getElem? (i := 0) rfl) (ci := 20) rfl rfl rfl hl.1 rfl (lv_room (Nat.le_of_ble_eq_true rfl)) dX4_pass_30 ⟨by omega, by omega⟩) hW (fun r_13 u_14 H locs h_15 hW => ?_)
    obtain ⟨rfl, rfl⟩ : r_13 = (-1) ∧ u_14 = _ := h_15
    have hW : pM G (MWl G ad (xi (xi (xi y 0 0) 1 2) 2 (-1)) ++ W0) s _ _ := hW
    exact re_i hF hRt hLk hQ (by omega) (by omega) dX4_pass_33 (xi (xi (xi y 0 0) 1 2) 2 (-1)) (by unfold passS; rw [if_neg (fun z => b_10 z.1)]; exact ⟨rfl, ⟨m0, m1, m2, m3, m4, m5, m6, m7, m8, m9, m10, m11, m12, m13, m14, rfl, m16, rfl, m18, m19, m20, m21, m22⟩⟩) hW

theorem enc_m1 {o : Option Nat} (hb : ∀ j, o = some j → j < 2147483648) (h : enc o = -1) : o = none := by
  cases o with
  | none => rfl
  | some j => exact absurd h (nI_ne_m1 (hb j rfl))
theorem gr_b {c : Co} {k : Nat} (h : InvC c) (hk : k < (cC c).length) : ∀ j, ((cC c).getD k dC).2.2.2.2.1 = some j → j < 2147483648 := fun j hj => by have := ((h.2.2.2.2.1.2 k hk).2.2.2.2.1 j hj).2; omega
theorem dr_b {c : Co} {k : Nat} (h : InvC c) (hk : k < (cC c).length) : ∀ j, ((cC c).getD k dC).2.2.2.2.2 = some j → j < 2147483648 := fun j hj => by have := (h.2.2.2.2.1.2 k hk).2.2.2.2.2 j hj; omega
theorem on_b {c : Co} {k : Nat} (h : InvC c) (hk : k < (cC c).length) : ∀ j, ((cC c).getD k dC).2.2.1 = some j → j < 2147483648 := fun j hj => by have := (h.2.2.2.2.1.2 k hk).2.2.1 j hj; have := h.2.2.2.2.1.1; omega
theorem bk_b {c : Co} {k : Nat} (h : InvC c) (hk : k < (cF c).length) : ∀ j, ((cF c).getD k dF).2.2 = some j → j < 2147483648 := fun j hj => by have := (h.2.2.1.2 k hk).2.2 j hj; have := h.2.2.1.1; omega
set_option maxRecDepth 100000 in
set_option maxHeartbeats 4000000 in
theorem mX4_grant (l : Launch) (G : pG) (ad : Nat → Nat) (y : XV) (W0 T : va_W) (hT : ∀ q ∈ T, q ∈ W0) (S : AS) (n9 : Nat) (hS : SOk n9 S) (hn9 : n9 ≤ 64) (hMR : MR G T y S) (a0 : Int32) : Met l yX4_grant (ws_ yX4_grant cX4_grant 2 (some .boolean)) ({ frames := 1, cells := 0, slots := 0, locals := 24 } : Room) (va_Pc [.ref (ad 0), .int a0] (fun U => pW G (MWl G ad y ++ W0) U)) (va_Qi (fun r (u : XV) => r = (grantS S a0).2 ∧ MR G T u (grantS S a0).1) (fun (u : XV) t9 => pW G (MWl G ad u ++ W0) t9) (pA G)) 0 0 (pA G) := by
  refine mw (by decide) (Nat.le_of_ble_eq_true rfl) ?_
  intro pp ee R s m below meth c ls Q hF hRt hLk hnm hR hQ hW hl
  have hx := hF.1
  have hb := hF.2.1
  have hts := hF.2.2.2.2
  have hR1 : R.frames = 1 := by rw [hR]
  have hR2 : R.cells = 0 := by rw [hR]
  have hR3 : R.slots = 0 := by rw [hR]
  have hR4 : R.locals = 24 := by rw [hR]
  have hl : lv_has ls 2 [(0, .ref (ad 0)), (1, .int a0)] := hl
  have hW : pM G (MWl G ad y ++ W0) s s.heap [] := hW
  obtain ⟨m0, m1, m2, m3, m4, m5, m6, m7, m8, m9, m10, m11, m12, m13, m14, m15, m16, m17, m18, m19, m20, m21, m22⟩ := hMR
  have hI := hS.inv
  have b0 := hI.1.1
  have b1 := hI.2.1.1
  have b2 := hI.2.2.1.1
  have b3 := hI.2.2.2.1.1
  have b4 := hI.2.2.2.2.1.1
  have b5 := hI.2.2.2.2.2
  have b6 := hS.2.1
  have b7 := hS.2.2.1
  have b8 := hS.2.2.2.1
  have b9 := hS.2.2.2.2.1
  cases hi0 : ix a0 (cC S.1).length with
  | none =>
    refine lv_aload_n hx hb dX4_grant_0 rfl (lv_at hl 0 rfl) ?_
    refine lv_iconst (v := 0) hx hb dX4_grant_1 (by decide) ?_
    refine pM0_thrown hF hW q1095 dX4_grant_2 (fun H locs hW => ?_)
    have hW : pM G (MWl G ad (xi y 0 0) ++ W0) s _ _ := hW
    refine lv_aload_n hx hb dX4_grant_5 rfl (lv_at hl 0 rfl) ?_
    refine lv_iload_n hx hb dX4_grant_6 rfl (lv_at hl 1 rfl) ?_
    refine cl_i (ru_V (As := [.int a0]) (rest := []) hF (mX4_isClaim l G ad (xi y 0 0) W0 a0) (cwV 1 hts (lw_V q1354 q1356 qs45 q66 q1357) rfl rfl rfl (by decide +kernel) ⟨lb hR1 rfl, lb hR4 rfl⟩) hW (List.mem_of_getElem? (i := 0) rfl) (ci := 20) rfl rfl rfl hl.1 rfl (lv_room (Nat.le_of_ble_eq_true rfl)) dX4_grant_7 ⟨by omega, by omega⟩) hW (fun r_ u_ H locs h_ hW => ?_)
    have hW : pM G (MWl G ad (xi y 0 0) ++ W0) s _ _ := hW
    rcases h_ with ⟨rfl, h_⟩ | ⟨rfl, h_⟩
    · exact absurd h_ (fun z => ix_no hi0 (by rw [show (xi y 0 0).1 7 = nI (cC S.1).length from m8] at z; exact z))
    · refine lv_if_ne (tgt := 19) hx hb dX4_grant_10 (by decide) (fun c_10 => absurd c_10 (by decide)) (fun c_10 => ?_)
      refine lv_aload_n hx hb dX4_grant_13 rfl (lv_at hl 0 rfl) ?_
      refine lv_iconst (v := 1) hx hb dX4_grant_14 (by decide) ?_
      refine cl_i (ru_V (As := [.int 1]) (rest := []) hF (mX4_denied l G ad (xi y 0 0) W0 1) (cwV 1 hts (lw_V q1382 q1384 qs50 q66 q1385) rfl rfl rfl (by decide +kernel) ⟨lb hR1 rfl, lb hR4 rfl⟩) hW (List.mem_of_getElem? (i := 0) rfl) (ci := 20) rfl rfl rfl hl.1 rfl (lv_room (Nat.le_of_ble_eq_true rfl)) dX4_grant_15 ⟨by omega, by omega⟩) hW (fun r_1 u_2 H locs h_3 hW => ?_)
      obtain ⟨rfl, rfl⟩ : r_1 = 0 ∧ u_2 = _ := h_3
      have hW : pM G (MWl G ad (xi (xi (xi y 0 0) 1 1) 2 (-1)) ++ W0) s _ _ := hW
      exact re_z hF hRt hLk hQ (by omega) (by omega) (by decide) dX4_grant_18 (xi (xi (xi y 0 0) 1 1) 2 (-1)) (by unfold grantS; rw [hi0]; exact ⟨rfl, ⟨m0, m1, m2, m3, m4, m5, m6, m7, m8, m9, m10, m11, m12, m13, m14, rfl, m16, rfl, m18, m19, m20, m21, m22⟩⟩) hW
  | some k0 =>
    obtain ⟨hk0, rfl⟩ := ix_some hi0 (by omega)
    refine lv_aload_n hx hb dX4_grant_0 rfl (lv_at hl 0 rfl) ?_
    refine lv_iconst (v := 0) hx hb dX4_grant_1 (by decide) ?_
    refine pM0_thrown hF hW q1095 dX4_grant_2 (fun H locs hW => ?_)
    have hW : pM G (MWl G ad (xi y 0 0) ++ W0) s _ _ := hW
    refine lv_aload_n hx hb dX4_grant_5 rfl (lv_at hl 0 rfl) ?_
    refine lv_iload_n hx hb dX4_grant_6 rfl (lv_at hl 1 rfl) ?_
    refine cl_i (ru_V (As := [.int (nI k0)]) (rest := []) hF (mX4_isClaim l G ad (xi y 0 0) W0 (nI k0)) (cwV 1 hts (lw_V q1354 q1356 qs45 q66 q1357) rfl rfl rfl (by decide +kernel) ⟨lb hR1 rfl, lb hR4 rfl⟩) hW (List.mem_of_getElem? (i := 0) rfl) (ci := 20) rfl rfl rfl hl.1 rfl (lv_room (Nat.le_of_ble_eq_true rfl)) dX4_grant_7 ⟨by omega, by omega⟩) hW (fun r_ u_ H locs h_ hW => ?_)
    have hW : pM G (MWl G ad (xi y 0 0) ++ W0) s _ _ := hW
    rcases h_ with ⟨rfl, h_⟩ | ⟨rfl, h_⟩
    · refine lv_if_ne (tgt := 19) hx hb dX4_grant_10 (by decide) (fun c_10 => ?_) (fun c_10 => absurd c_10 (by decide))
      refine lv_aload_n hx hb dX4_grant_19 rfl (lv_at hl 0 rfl) ?_
      refine gM0_grantDay hF hW q1119 dX4_grant_20 ?_
      refine lv_iload_n hx hb dX4_grant_23 rfl (lv_at hl 1 rfl) ?_
      refine lM15 hF hW (j := k0) (rfl) (by omega) (v := enc ((cC S.1).getD k0 dC).2.2.2.2.1) ((m9 k0 hk0).2.2.2.2.1) dX4_grant_24 ?_
      refine lv_iconst (v := (-1)) hx hb dX4_grant_25 (by decide) ?_
      refine lv_icmp_eq (tgt := 36) hx hb dX4_grant_26 (by decide) (fun c_26 => ?_) (fun c_26 => ?_)
      · have hg : ((cC S.1).getD k0 dC).2.2.2.2.1 = none := enc_m1 (gr_b hI hk0) c_26
        refine lv_aload_n hx hb dX4_grant_36 rfl (lv_at hl 0 rfl) ?_
        refine gM0_grantDay hF hW q1119 dX4_grant_37 ?_
        refine lv_iload_n hx hb dX4_grant_40 rfl (lv_at hl 1 rfl) ?_
        refine lv_aload_n hx hb dX4_grant_41 rfl (lv_at hl 0 rfl) ?_
        refine gM0_now hF hW q1104 (v := nI (cN S.1)) (m10) dX4_grant_42 ?_
        refine sM15 hF hW (j := k0) (rfl) (by omega) dX4_grant_45 (fun H locs hW => ?_)
        have hW : pM G (MWl G ad (xa (xi y 0 0) 9 (va_up (y.2.1 9) k0 (nI (cN S.1)))) ++ W0) s _ _ := hW
        refine lv_aload_n hx hb dX4_grant_46 rfl (lv_at hl 0 rfl) ?_
        refine lv_bipush (v := 7) hx hb dX4_grant_47 (by decide) ?_
        refine lv_iload_n hx hb dX4_grant_49 rfl (lv_at hl 1 rfl) ?_
        refine lv_null hx hb dX4_grant_50 ?_
        refine cl_v (ru_V (As := [.int 7, .int (nI k0), .null]) (rest := []) hF (mX4_act_n l G ad (xa (xi y 0 0) 9 (va_up (y.2.1 9) k0 (nI (cN S.1)))) W0 S.2.1.length (by omega) (m11) 7 (nI k0)) (cwV 3 hts (lw_V q1283 q1285 qs35 q66 q1286) rfl rfl rfl (by decide +kernel) ⟨lb hR1 rfl, lb hR4 rfl⟩) hW (List.mem_of_getElem? (i := 0) rfl) (ci := 20) rfl rfl rfl hl.1 rfl (lv_room (Nat.le_of_ble_eq_true rfl)) dX4_grant_51 ⟨by omega, by omega⟩) hW (fun u_5 H locs h_6 hW => ?_)
        obtain rfl : u_5 = _ := h_6
        have hW : pM G (MWl G ad (xr (xa (xa (xa (xi (xi y 0 0) 10 (nI (S.2.1.length + 1))) 9 (va_up (y.2.1 9) k0 (nI (cN S.1)))) 11 (va_up (y.2.1 11) S.2.1.length 7)) 12 (va_up (y.2.1 12) S.2.1.length (nI k0))) 4 (va_up (y.2.2.1 4) S.2.1.length none)) ++ W0) s _ _ := hW
        refine lv_aload_n hx hb dX4_grant_54 rfl (lv_at hl 0 rfl) ?_
        refine cl_i (ru_V (As := []) (rest := []) hF (mX4_granted l G ad (xr (xa (xa (xa (xi (xi y 0 0) 10 (nI (S.2.1.length + 1))) 9 (va_up (y.2.1 9) k0 (nI (cN S.1)))) 11 (va_up (y.2.1 11) S.2.1.length 7)) 12 (va_up (y.2.1 12) S.2.1.length (nI k0))) 4 (va_up (y.2.2.1 4) S.2.1.length none)) W0 ) (cwV 0 hts (lw_V q1386 q1388 qs51 q66 q1389) rfl rfl rfl (by decide +kernel) ⟨lb hR1 rfl, lb hR4 rfl⟩) hW (List.mem_of_getElem? (i := 0) rfl) (ci := 20) rfl rfl rfl hl.1 rfl (lv_room (Nat.le_of_ble_eq_true rfl)) dX4_grant_55 ⟨by omega, by omega⟩) hW (fun r_7 u_8 H locs h_9 hW => ?_)
        obtain ⟨rfl, rfl⟩ : r_7 = 1 ∧ u_8 = _ := h_9
        have hW : pM G (MWl G ad (xr (xa (xa (xa (xi (xi (xi (xi y 0 0) 1 0) 2 (-1)) 10 (nI (S.2.1.length + 1))) 9 (va_up (y.2.1 9) k0 (nI (cN S.1)))) 11 (va_up (y.2.1 11) S.2.1.length 7)) 12 (va_up (y.2.1 12) S.2.1.length (nI k0))) 4 (va_up (y.2.2.1 4) S.2.1.length none)) ++ W0) s _ _ := hW
        exact re_z hF hRt hLk hQ (by omega) (by omega) (by decide) dX4_grant_58 (xr (xa (xa (xa (xi (xi (xi (xi y 0 0) 1 0) 2 (-1)) 10 (nI (S.2.1.length + 1))) 9 (va_up (y.2.1 9) k0 (nI (cN S.1)))) 11 (va_up (y.2.1 11) S.2.1.length 7)) 12 (va_up (y.2.1 12) S.2.1.length (nI k0))) 4 (va_up (y.2.2.1 4) S.2.1.length none)) (by unfold grantS; rw [hi0]; dsimp only; rw [if_neg (fun z => z hg)]; exact ⟨rfl, ⟨m0, m1, m2, m3, m4, m5, m6, m7, m8.trans (congrArg nI modC_len.symm), ClaR.gr (g := some (cN S.1)) m9 hk0, m10, rfl, ActM.add (a := (7, k0, 0, nT)) m12 (fun z => nomatch z), m13, m14, rfl, m16, rfl, m18, m19, m20, m21, m22⟩⟩) hW
      · have hg : ¬ ((cC S.1).getD k0 dC).2.2.2.2.1 = none := fun z => c_26 (by rw [z]; rfl)
        refine lv_aload_n hx hb dX4_grant_29 rfl (lv_at hl 0 rfl) ?_
        refine lv_bipush (v := 7) hx hb dX4_grant_30 (by decide) ?_
        refine cl_i (ru_V (As := [.int 7]) (rest := []) hF (mX4_denied l G ad (xi y 0 0) W0 7) (cwV 1 hts (lw_V q1382 q1384 qs50 q66 q1385) rfl rfl rfl (by decide +kernel) ⟨lb hR1 rfl, lb hR4 rfl⟩) hW (List.mem_of_getElem? (i := 0) rfl) (ci := 20) rfl rfl rfl hl.1 rfl (lv_room (Nat.le_of_ble_eq_true rfl)) dX4_grant_32 ⟨by omega, by omega⟩) hW (fun r_10 u_11 H locs h_12 hW => ?_)
        obtain ⟨rfl, rfl⟩ : r_10 = 0 ∧ u_11 = _ := h_12
        have hW : pM G (MWl G ad (xi (xi (xi y 0 0) 1 7) 2 (-1)) ++ W0) s _ _ := hW
        exact re_z hF hRt hLk hQ (by omega) (by omega) (by decide) dX4_grant_35 (xi (xi (xi y 0 0) 1 7) 2 (-1)) (by unfold grantS; rw [hi0]; dsimp only; rw [if_pos hg]; exact ⟨rfl, ⟨m0, m1, m2, m3, m4, m5, m6, m7, m8, m9, m10, m11, m12, m13, m14, rfl, m16, rfl, m18, m19, m20, m21, m22⟩⟩) hW
    · exact absurd ((by rw [show (xi y 0 0).1 7 = nI (cC S.1).length from m8]; exact ix_in hi0 : 0 ≤ (nI k0) ∧ (nI k0) < (xi y 0 0).1 7)) h_

set_option maxRecDepth 100000 in
set_option maxHeartbeats 4000000 in
theorem mX4_drop (l : Launch) (G : pG) (ad : Nat → Nat) (y : XV) (W0 T : va_W) (hT : ∀ q ∈ T, q ∈ W0) (S : AS) (n9 : Nat) (hS : SOk n9 S) (hn9 : n9 ≤ 64) (hMR : MR G T y S) (a0 : Int32) : Met l yX4_drop (ws_ yX4_drop cX4_drop 2 (some .boolean)) ({ frames := 1, cells := 0, slots := 0, locals := 24 } : Room) (va_Pc [.ref (ad 0), .int a0] (fun U => pW G (MWl G ad y ++ W0) U)) (va_Qi (fun r (u : XV) => r = (dropS S a0).2 ∧ MR G T u (dropS S a0).1) (fun (u : XV) t9 => pW G (MWl G ad u ++ W0) t9) (pA G)) 0 0 (pA G) := by
  refine mw (by decide) (Nat.le_of_ble_eq_true rfl) ?_
  intro pp ee R s m below meth c ls Q hF hRt hLk hnm hR hQ hW hl
  have hx := hF.1
  have hb := hF.2.1
  have hts := hF.2.2.2.2
  have hR1 : R.frames = 1 := by rw [hR]
  have hR2 : R.cells = 0 := by rw [hR]
  have hR3 : R.slots = 0 := by rw [hR]
  have hR4 : R.locals = 24 := by rw [hR]
  have hl : lv_has ls 2 [(0, .ref (ad 0)), (1, .int a0)] := hl
  have hW : pM G (MWl G ad y ++ W0) s s.heap [] := hW
  obtain ⟨m0, m1, m2, m3, m4, m5, m6, m7, m8, m9, m10, m11, m12, m13, m14, m15, m16, m17, m18, m19, m20, m21, m22⟩ := hMR
  have hI := hS.inv
  have b0 := hI.1.1
  have b1 := hI.2.1.1
  have b2 := hI.2.2.1.1
  have b3 := hI.2.2.2.1.1
  have b4 := hI.2.2.2.2.1.1
  have b5 := hI.2.2.2.2.2
  have b6 := hS.2.1
  have b7 := hS.2.2.1
  have b8 := hS.2.2.2.1
  have b9 := hS.2.2.2.2.1
  cases hi0 : ix a0 (cC S.1).length with
  | none =>
    refine lv_aload_n hx hb dX4_drop_0 rfl (lv_at hl 0 rfl) ?_
    refine lv_iconst (v := 0) hx hb dX4_drop_1 (by decide) ?_
    refine pM0_thrown hF hW q1095 dX4_drop_2 (fun H locs hW => ?_)
    have hW : pM G (MWl G ad (xi y 0 0) ++ W0) s _ _ := hW
    refine lv_aload_n hx hb dX4_drop_5 rfl (lv_at hl 0 rfl) ?_
    refine lv_iload_n hx hb dX4_drop_6 rfl (lv_at hl 1 rfl) ?_
    refine cl_i (ru_V (As := [.int a0]) (rest := []) hF (mX4_isClaim l G ad (xi y 0 0) W0 a0) (cwV 1 hts (lw_V q1354 q1356 qs45 q66 q1357) rfl rfl rfl (by decide +kernel) ⟨lb hR1 rfl, lb hR4 rfl⟩) hW (List.mem_of_getElem? (i := 0) rfl) (ci := 20) rfl rfl rfl hl.1 rfl (lv_room (Nat.le_of_ble_eq_true rfl)) dX4_drop_7 ⟨by omega, by omega⟩) hW (fun r_ u_ H locs h_ hW => ?_)
    have hW : pM G (MWl G ad (xi y 0 0) ++ W0) s _ _ := hW
    rcases h_ with ⟨rfl, h_⟩ | ⟨rfl, h_⟩
    · exact absurd h_ (fun z => ix_no hi0 (by rw [show (xi y 0 0).1 7 = nI (cC S.1).length from m8] at z; exact z))
    · refine lv_if_ne (tgt := 19) hx hb dX4_drop_10 (by decide) (fun c_10 => absurd c_10 (by decide)) (fun c_10 => ?_)
      refine lv_aload_n hx hb dX4_drop_13 rfl (lv_at hl 0 rfl) ?_
      refine lv_iconst (v := 1) hx hb dX4_drop_14 (by decide) ?_
      refine cl_i (ru_V (As := [.int 1]) (rest := []) hF (mX4_denied l G ad (xi y 0 0) W0 1) (cwV 1 hts (lw_V q1382 q1384 qs50 q66 q1385) rfl rfl rfl (by decide +kernel) ⟨lb hR1 rfl, lb hR4 rfl⟩) hW (List.mem_of_getElem? (i := 0) rfl) (ci := 20) rfl rfl rfl hl.1 rfl (lv_room (Nat.le_of_ble_eq_true rfl)) dX4_drop_15 ⟨by omega, by omega⟩) hW (fun r_1 u_2 H locs h_3 hW => ?_)
      obtain ⟨rfl, rfl⟩ : r_1 = 0 ∧ u_2 = _ := h_3
      have hW : pM G (MWl G ad (xi (xi (xi y 0 0) 1 1) 2 (-1)) ++ W0) s _ _ := hW
      exact re_z hF hRt hLk hQ (by omega) (by omega) (by decide) dX4_drop_18 (xi (xi (xi y 0 0) 1 1) 2 (-1)) (by unfold dropS; rw [hi0]; exact ⟨rfl, ⟨m0, m1, m2, m3, m4, m5, m6, m7, m8, m9, m10, m11, m12, m13, m14, rfl, m16, rfl, m18, m19, m20, m21, m22⟩⟩) hW
  | some k0 =>
    obtain ⟨hk0, rfl⟩ := ix_some hi0 (by omega)
    refine lv_aload_n hx hb dX4_drop_0 rfl (lv_at hl 0 rfl) ?_
    refine lv_iconst (v := 0) hx hb dX4_drop_1 (by decide) ?_
    refine pM0_thrown hF hW q1095 dX4_drop_2 (fun H locs hW => ?_)
    have hW : pM G (MWl G ad (xi y 0 0) ++ W0) s _ _ := hW
    refine lv_aload_n hx hb dX4_drop_5 rfl (lv_at hl 0 rfl) ?_
    refine lv_iload_n hx hb dX4_drop_6 rfl (lv_at hl 1 rfl) ?_
    refine cl_i (ru_V (As := [.int (nI k0)]) (rest := []) hF (mX4_isClaim l G ad (xi y 0 0) W0 (nI k0)) (cwV 1 hts (lw_V q1354 q1356 qs45 q66 q1357) rfl rfl rfl (by decide +kernel) ⟨lb hR1 rfl, lb hR4 rfl⟩) hW (List.mem_of_getElem? (i := 0) rfl) (ci := 20) rfl rfl rfl hl.1 rfl (lv_room (Nat.le_of_ble_eq_true rfl)) dX4_drop_7 ⟨by omega, by omega⟩) hW (fun r_ u_ H locs h_ hW => ?_)
    have hW : pM G (MWl G ad (xi y 0 0) ++ W0) s _ _ := hW
    rcases h_ with ⟨rfl, h_⟩ | ⟨rfl, h_⟩
    · refine lv_if_ne (tgt := 19) hx hb dX4_drop_10 (by decide) (fun c_10 => ?_) (fun c_10 => absurd c_10 (by decide))
      refine lv_aload_n hx hb dX4_drop_19 rfl (lv_at hl 0 rfl) ?_
      refine gM0_grantDay hF hW q1119 dX4_drop_20 ?_
      refine lv_iload_n hx hb dX4_drop_23 rfl (lv_at hl 1 rfl) ?_
      refine lM15 hF hW (j := k0) (rfl) (by omega) (v := enc ((cC S.1).getD k0 dC).2.2.2.2.1) ((m9 k0 hk0).2.2.2.2.1) dX4_drop_24 ?_
      refine lv_iconst (v := (-1)) hx hb dX4_drop_25 (by decide) ?_
      refine lv_icmp_eq (tgt := 39) hx hb dX4_drop_26 (by decide) (fun c_26 => ?_) (fun c_26 => ?_)
      · have hg : ((cC S.1).getD k0 dC).2.2.2.2.1 = none := enc_m1 (gr_b hI hk0) c_26
        refine lv_aload_n hx hb dX4_drop_39 rfl (lv_at hl 0 rfl) ?_
        refine lv_bipush (v := 7) hx hb dX4_drop_40 (by decide) ?_
        refine cl_i (ru_V (As := [.int 7]) (rest := []) hF (mX4_denied l G ad (xi y 0 0) W0 7) (cwV 1 hts (lw_V q1382 q1384 qs50 q66 q1385) rfl rfl rfl (by decide +kernel) ⟨lb hR1 rfl, lb hR4 rfl⟩) hW (List.mem_of_getElem? (i := 0) rfl) (ci := 20) rfl rfl rfl hl.1 rfl (lv_room (Nat.le_of_ble_eq_true rfl)) dX4_drop_42 ⟨by omega, by omega⟩) hW (fun r_4 u_5 H locs h_6 hW => ?_)
        obtain ⟨rfl, rfl⟩ : r_4 = 0 ∧ u_5 = _ := h_6
        have hW : pM G (MWl G ad (xi (xi (xi y 0 0) 1 7) 2 (-1)) ++ W0) s _ _ := hW
        exact re_z hF hRt hLk hQ (by omega) (by omega) (by decide) dX4_drop_45 (xi (xi (xi y 0 0) 1 7) 2 (-1)) (by unfold dropS; rw [hi0]; dsimp only; rw [if_pos (Or.inl hg)]; exact ⟨rfl, ⟨m0, m1, m2, m3, m4, m5, m6, m7, m8, m9, m10, m11, m12, m13, m14, rfl, m16, rfl, m18, m19, m20, m21, m22⟩⟩) hW
      · have hg : ¬ ((cC S.1).getD k0 dC).2.2.2.2.1 = none := fun z => c_26 (by rw [z]; rfl)
        refine lv_aload_n hx hb dX4_drop_29 rfl (lv_at hl 0 rfl) ?_
        refine gM0_dropDay hF hW q1120 dX4_drop_30 ?_
        refine lv_iload_n hx hb dX4_drop_33 rfl (lv_at hl 1 rfl) ?_
        refine lM16 hF hW (j := k0) (rfl) (by omega) (v := enc ((cC S.1).getD k0 dC).2.2.2.2.2) ((m9 k0 hk0).2.2.2.2.2) dX4_drop_34 ?_
        refine lv_iconst (v := (-1)) hx hb dX4_drop_35 (by decide) ?_
        refine lv_icmp_eq (tgt := 46) hx hb dX4_drop_36 (by decide) (fun c_36 => ?_) (fun c_36 => ?_)
        · have hd : ((cC S.1).getD k0 dC).2.2.2.2.2 = none := enc_m1 (dr_b hI hk0) c_36
          refine lv_aload_n hx hb dX4_drop_46 rfl (lv_at hl 0 rfl) ?_
          refine gM0_dropDay hF hW q1120 dX4_drop_47 ?_
          refine lv_iload_n hx hb dX4_drop_50 rfl (lv_at hl 1 rfl) ?_
          refine lv_aload_n hx hb dX4_drop_51 rfl (lv_at hl 0 rfl) ?_
          refine gM0_now hF hW q1104 (v := nI (cN S.1)) (m10) dX4_drop_52 ?_
          refine sM16 hF hW (j := k0) (rfl) (by omega) dX4_drop_55 (fun H locs hW => ?_)
          have hW : pM G (MWl G ad (xa (xi y 0 0) 10 (va_up (y.2.1 10) k0 (nI (cN S.1)))) ++ W0) s _ _ := hW
          refine lv_aload_n hx hb dX4_drop_56 rfl (lv_at hl 0 rfl) ?_
          refine lv_bipush (v := 8) hx hb dX4_drop_57 (by decide) ?_
          refine lv_iload_n hx hb dX4_drop_59 rfl (lv_at hl 1 rfl) ?_
          refine lv_null hx hb dX4_drop_60 ?_
          refine cl_v (ru_V (As := [.int 8, .int (nI k0), .null]) (rest := []) hF (mX4_act_n l G ad (xa (xi y 0 0) 10 (va_up (y.2.1 10) k0 (nI (cN S.1)))) W0 S.2.1.length (by omega) (m11) 8 (nI k0)) (cwV 3 hts (lw_V q1283 q1285 qs35 q66 q1286) rfl rfl rfl (by decide +kernel) ⟨lb hR1 rfl, lb hR4 rfl⟩) hW (List.mem_of_getElem? (i := 0) rfl) (ci := 20) rfl rfl rfl hl.1 rfl (lv_room (Nat.le_of_ble_eq_true rfl)) dX4_drop_61 ⟨by omega, by omega⟩) hW (fun u_8 H locs h_9 hW => ?_)
          obtain rfl : u_8 = _ := h_9
          have hW : pM G (MWl G ad (xr (xa (xa (xa (xi (xi y 0 0) 10 (nI (S.2.1.length + 1))) 10 (va_up (y.2.1 10) k0 (nI (cN S.1)))) 11 (va_up (y.2.1 11) S.2.1.length 8)) 12 (va_up (y.2.1 12) S.2.1.length (nI k0))) 4 (va_up (y.2.2.1 4) S.2.1.length none)) ++ W0) s _ _ := hW
          refine lv_aload_n hx hb dX4_drop_64 rfl (lv_at hl 0 rfl) ?_
          refine cl_i (ru_V (As := []) (rest := []) hF (mX4_granted l G ad (xr (xa (xa (xa (xi (xi y 0 0) 10 (nI (S.2.1.length + 1))) 10 (va_up (y.2.1 10) k0 (nI (cN S.1)))) 11 (va_up (y.2.1 11) S.2.1.length 8)) 12 (va_up (y.2.1 12) S.2.1.length (nI k0))) 4 (va_up (y.2.2.1 4) S.2.1.length none)) W0 ) (cwV 0 hts (lw_V q1386 q1388 qs51 q66 q1389) rfl rfl rfl (by decide +kernel) ⟨lb hR1 rfl, lb hR4 rfl⟩) hW (List.mem_of_getElem? (i := 0) rfl) (ci := 20) rfl rfl rfl hl.1 rfl (lv_room (Nat.le_of_ble_eq_true rfl)) dX4_drop_65 ⟨by omega, by omega⟩) hW (fun r_10 u_11 H locs h_12 hW => ?_)
          obtain ⟨rfl, rfl⟩ : r_10 = 1 ∧ u_11 = _ := h_12
          have hW : pM G (MWl G ad (xr (xa (xa (xa (xi (xi (xi (xi y 0 0) 1 0) 2 (-1)) 10 (nI (S.2.1.length + 1))) 10 (va_up (y.2.1 10) k0 (nI (cN S.1)))) 11 (va_up (y.2.1 11) S.2.1.length 8)) 12 (va_up (y.2.1 12) S.2.1.length (nI k0))) 4 (va_up (y.2.2.1 4) S.2.1.length none)) ++ W0) s _ _ := hW
          exact re_z hF hRt hLk hQ (by omega) (by omega) (by decide) dX4_drop_68 (xr (xa (xa (xa (xi (xi (xi (xi y 0 0) 1 0) 2 (-1)) 10 (nI (S.2.1.length + 1))) 10 (va_up (y.2.1 10) k0 (nI (cN S.1)))) 11 (va_up (y.2.1 11) S.2.1.length 8)) 12 (va_up (y.2.1 12) S.2.1.length (nI k0))) 4 (va_up (y.2.2.1 4) S.2.1.length none)) (by unfold dropS; rw [hi0]; dsimp only; rw [if_neg (fun z => z.elim (fun q => hg q) (fun q => q hd))]; exact ⟨rfl, ⟨m0, m1, m2, m3, m4, m5, m6, m7, m8.trans (congrArg nI modC_len.symm), ClaR.dr (g := some (cN S.1)) m9 hk0, m10, rfl, ActM.add (a := (8, k0, 0, nT)) m12 (fun z => nomatch z), m13, m14, rfl, m16, rfl, m18, m19, m20, m21, m22⟩⟩) hW
        · have hd : ¬ ((cC S.1).getD k0 dC).2.2.2.2.2 = none := fun z => c_36 (by rw [z]; rfl)
          refine lv_aload_n hx hb dX4_drop_39 rfl (lv_at hl 0 rfl) ?_
          refine lv_bipush (v := 7) hx hb dX4_drop_40 (by decide) ?_
          refine cl_i (ru_V (As := [.int 7]) (rest := []) hF (mX4_denied l G ad (xi y 0 0) W0 7) (cwV 1 hts (lw_V q1382 q1384 qs50 q66 q1385) rfl rfl rfl (by decide +kernel) ⟨lb hR1 rfl, lb hR4 rfl⟩) hW (List.mem_of_getElem? (i := 0) rfl) (ci := 20) rfl rfl rfl hl.1 rfl (lv_room (Nat.le_of_ble_eq_true rfl)) dX4_drop_42 ⟨by omega, by omega⟩) hW (fun r_13 u_14 H locs h_15 hW => ?_)
          obtain ⟨rfl, rfl⟩ : r_13 = 0 ∧ u_14 = _ := h_15
          have hW : pM G (MWl G ad (xi (xi (xi y 0 0) 1 7) 2 (-1)) ++ W0) s _ _ := hW
          exact re_z hF hRt hLk hQ (by omega) (by omega) (by decide) dX4_drop_45 (xi (xi (xi y 0 0) 1 7) 2 (-1)) (by unfold dropS; rw [hi0]; dsimp only; rw [if_pos (Or.inr hd)]; exact ⟨rfl, ⟨m0, m1, m2, m3, m4, m5, m6, m7, m8, m9, m10, m11, m12, m13, m14, rfl, m16, rfl, m18, m19, m20, m21, m22⟩⟩) hW
    · exact absurd ((by rw [show (xi y 0 0).1 7 = nI (cC S.1).length from m8]; exact ix_in hi0 : 0 ≤ (nI k0) ∧ (nI k0) < (xi y 0 0).1 7)) h_
