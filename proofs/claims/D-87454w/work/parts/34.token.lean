/-! tokens -/
def cod (v : Int32) : Nat := v.toBitVec.toNat % 256
theorem cod_and (v : Int32) : v &&& 255 = nI (cod v) := pk_and v 8 (by decide)
theorem cod_lt (v : Int32) : cod v < 256 := Nat.mod_lt _ (by decide)
abbrev isL (c : Nat) : Prop := 97 ≤ c ∧ c ≤ 122
def seeV (f : Nat → Int32) (n k : Nat) : Int32 := if k < n then nI (cod (f k)) else -1
theorem seeV_eq {f : Nat → Int32} {n k c : Nat} (hc : c < 256) : seeV f n k = nI c ↔ k < n ∧ cod (f k) = c := by
  have hl := cod_lt (f k)
  unfold seeV
  split
  · rename_i h
    exact ⟨fun e => ⟨h, eq_eq e⟩, fun e => by rw [e.2]⟩
  · rename_i h
    exact ⟨fun e => absurd e.symm nI_ne_m1, fun e => absurd e.1 h⟩
theorem seeV_m1 {f : Nat → Int32} {n k : Nat} : seeV f n k = -1 ↔ ¬ k < n := by
  have hl := cod_lt (f k)
  unfold seeV
  split
  · rename_i h
    exact ⟨fun e => absurd e nI_ne_m1, fun e => absurd h e⟩
  · rename_i h
    exact ⟨fun _ => h, fun _ => rfl⟩
theorem seeV_L {f : Nat → Int32} {n k : Nat} : (97 ≤ seeV f n k ∧ seeV f n k ≤ 122) ↔ k < n ∧ isL (cod (f k)) := by
  have hl := cod_lt (f k)
  unfold seeV
  split
  · rename_i h
    constructor
    · rintro ⟨a, b⟩
      exact ⟨h, le_le (a := 97) a, le_le (b := 122) b⟩
    · rintro ⟨-, a, b⟩
      exact ⟨nI_le (a := 97) a (by omega), nI_le (b := 122) b (by omega)⟩
  · rename_i h
    exact ⟨fun e => absurd e.1 (by decide), fun e => absurd e.1 h⟩
def skp (f : Nat → Int32) (n : Nat) : Nat → Nat → Nat
  | 0, k => k
  | g + 1, k => if k < n ∧ cod (f k) = 32 then skp f n g (k + 1) else k
def wnd (f : Nat → Int32) (n : Nat) : Nat → Nat → Nat
  | 0, k => k
  | g + 1, k => if k < n ∧ isL (cod (f k)) then wnd f n g (k + 1) else k
def skA (f : Nat → Int32) (n k : Nat) : Nat := skp f n (n - k) k
def wnA (f : Nat → Int32) (n k : Nat) : Nat := wnd f n (n - k) k
theorem skA_step {f : Nat → Int32} {n k : Nat} (h : k < n ∧ cod (f k) = 32) : skA f n k = skA f n (k + 1) := by
  unfold skA
  rw [show n - k = (n - (k + 1)) + 1 by omega]
  exact if_pos h
theorem skA_stop {f : Nat → Int32} {n k : Nat} (h : ¬ (k < n ∧ cod (f k) = 32)) : skA f n k = k := by
  unfold skA
  cases n - k with
  | zero => rfl
  | succ g => exact if_neg h
theorem wnA_step {f : Nat → Int32} {n k : Nat} (h : k < n ∧ isL (cod (f k))) : wnA f n k = wnA f n (k + 1) := by
  unfold wnA
  rw [show n - k = (n - (k + 1)) + 1 by omega]
  exact if_pos h
theorem wnA_stop {f : Nat → Int32} {n k : Nat} (h : ¬ (k < n ∧ isL (cod (f k)))) : wnA f n k = k := by
  unfold wnA
  cases n - k with
  | zero => rfl
  | succ g => exact if_neg h
def tkK (f : Nat → Int32) (n e : Nat) : Nat := if skA f n e < n then (if isL (cod (f (skA f n e))) then (if wnA f n (skA f n e) - skA f n e ≤ 10 then 2 else 1) else if cod (f (skA f n e)) = 58 then 58 else if cod (f (skA f n e)) = 59 then 59 else 1) else 0
def tkE (f : Nat → Int32) (n e : Nat) : Nat := if skA f n e < n then (if isL (cod (f (skA f n e))) then wnA f n (skA f n e) else skA f n e + 1) else skA f n e
def tkW (f : Nat → Int32) (n e : Nat) : List Nat := (List.range (wnA f n (skA f n e) - skA f n e)).map (fun i => cod (f (skA f n e + i)))
/-- the reader's own fields, array and word changed -/
def rdx (x : XV) (v lt : Nat → Int32) (wd : Option Nat) : XV := xf (xa (xi (xi (xi (xi (xi (xi (xi x 14 (v 14)) 15 (v 15)) 16 (v 16)) 17 (v 17)) 18 (v 18)) 19 (v 19)) 20 (v 20)) 1 lt) 0 wd
abbrev RS : Type := (Nat → Int32) × (Nat → Int32) × Option Nat × va_W
theorem map_getD (m : Nat) (g : Nat → Nat) {j : Nat} (h : j < m) : ((List.range m).map g).getD j 0 = g j := by
  rw [List.getD_eq_getElem?_getD, List.getElem?_map, List.getElem?_range h]
  rfl
theorem nar_c {c : Nat} (h : c < 256) : vp_nar .char ((nI c).toUInt32 % 65536).toInt32 = nI c := by
  rw [pk_vc]
  exact (sb_byte c h).2.1

set_option maxRecDepth 100000 in
set_option maxHeartbeats 4000000 in
theorem mX1_see (l : Launch) (G : pG) (ad : Nat → Nat) (x : XV) (T : va_W) (k : Nat) (n : Nat) (hn : n ≤ 300) (hsz : x.1 14 = nI n) (hk : k ≤ 301) : Met l yX1_see (ws_ yX1_see cX1_see 2 (some .int)) ({ frames := 0, cells := 0, slots := 0, locals := 0 } : Room) (va_Pc [.ref (ad 2), .int (nI k)] (fun U => pW G (HWl G ad x ++ T) U)) (va_Qi (fun r (_ : Unit) => r = seeV (x.2.1 0) n k) (fun (u : Unit) t9 => pW G (HWl G ad x ++ T) t9) (pA G)) 0 0 (pA G) := by
  refine mw (by decide) (Nat.le_of_ble_eq_true rfl) ?_
  intro pp ee R s m below meth c ls Q hF hRt hLk hnm hR hQ hW hl
  have hx := hF.1
  have hb := hF.2.1
  have hts := hF.2.2.2.2
  have hR1 : R.frames = 0 := by rw [hR]
  have hR2 : R.cells = 0 := by rw [hR]
  have hR3 : R.slots = 0 := by rw [hR]
  have hR4 : R.locals = 0 := by rw [hR]
  have hl : lv_has ls 2 [(0, .ref (ad 2)), (1, .int (nI k))] := hl
  have hW : pM G (HWl G ad x ++ T) s s.heap [] := hW
  refine lv_iload_n hx hb dX1_see_0 rfl (lv_at hl 1 rfl) ?_
  refine lv_aload_n hx hb dX1_see_1 rfl (lv_at hl 0 rfl) ?_
  refine gH2_size hF hW q186 (v := nI n) (hsz) dX1_see_2 ?_
  refine lv_icmp_ge (tgt := 21) hx hb dX1_see_5 (by decide) (fun c_5 => ?_) (fun c_5 => ?_)
  · refine lv_iconst (v := (-1)) hx hb dX1_see_21 (by decide) ?_
    exact re_i hF hRt hLk hQ (by omega) (by omega) dX1_see_22 () (by unfold seeV; rw [if_neg (by have := le_le c_5; omega)]) hW
  · have hkn : k < n := nle_lt c_5
    refine lv_aload_n hx hb dX1_see_8 rfl (lv_at hl 0 rfl) ?_
    refine gH2_text hF hW q184 dX1_see_9 ?_
    refine lv_iload_n hx hb dX1_see_12 rfl (lv_at hl 1 rfl) ?_
    refine lH1 hF hW (j := k) (rfl) (by omega) (v := x.2.1 0 k) (rfl) dX1_see_13 ?_
    refine lv_sipush (v := 255) hx hb dX1_see_14 (by decide) ?_
    refine lv_iand hx hb dX1_see_17 ?_
    refine lv_eqi (show (x.2.1 0 k) &&& 255 = nI (cod (x.2.1 0 k)) from cod_and _) ?_
    refine lv_goto (tgt := 22) hx hb dX1_see_18 (by decide) ?_
    exact re_i hF hRt hLk hQ (by omega) (by omega) dX1_see_22 () (by unfold seeV; rw [if_pos hkn]) hW

set_option maxRecDepth 100000 in
set_option maxHeartbeats 4000000 in
theorem mX1_isSmall (l : Launch) (G : pG) (ws : va_W) (a0 : Int32) : Met l yX1_isSmall (ws_ yX1_isSmall cX1_isSmall 1 (some .boolean)) ({ frames := 0, cells := 0, slots := 0, locals := 0 } : Room) (va_Pc [.int a0] (fun U => pW G (ws) U)) (va_Qi (fun r (_ : Unit) => (r = 1 ∧ (97 ≤ a0 ∧ a0 ≤ 122)) ∨ (r = 0 ∧ ¬ (97 ≤ a0 ∧ a0 ≤ 122))) (fun (u : Unit) t9 => pW G (ws) t9) (pA G)) 0 0 (pA G) := by
  refine mw (by decide) (Nat.le_of_ble_eq_true rfl) ?_
  intro pp ee R s m below meth c ls Q hF hRt hLk hnm hR hQ hW hl
  have hx := hF.1
  have hb := hF.2.1
  have hts := hF.2.2.2.2
  have hR1 : R.frames = 0 := by rw [hR]
  have hR2 : R.cells = 0 := by rw [hR]
  have hR3 : R.slots = 0 := by rw [hR]
  have hR4 : R.locals = 0 := by rw [hR]
  have hl : lv_has ls 1 [(0, .int a0)] := hl
  have hW : pM G (ws) s s.heap [] := hW
  refine lv_iload_n hx hb dX1_isSmall_0 rfl (lv_at hl 0 rfl) ?_
  refine lv_bipush (v := 97) hx hb dX1_isSmall_1 (by decide) ?_
  refine lv_icmp_lt (tgt := 16) hx hb dX1_isSmall_3 (by decide) (fun c_3 => ?_) (fun c_3 => ?_)
  · refine lv_iconst (v := 0) hx hb dX1_isSmall_16 (by decide) ?_
    exact re_z hF hRt hLk hQ (by omega) (by omega) (by decide) dX1_isSmall_17 () (Or.inr ⟨rfl, fun z => absurd z.1 (Int32.not_le.mpr c_3)⟩) hW
  · refine lv_iload_n hx hb dX1_isSmall_6 rfl (lv_at hl 0 rfl) ?_
    refine lv_bipush (v := 122) hx hb dX1_isSmall_7 (by decide) ?_
    refine lv_icmp_gt (tgt := 16) hx hb dX1_isSmall_9 (by decide) (fun c_9 => ?_) (fun c_9 => ?_)
    · refine lv_iconst (v := 0) hx hb dX1_isSmall_16 (by decide) ?_
      exact re_z hF hRt hLk hQ (by omega) (by omega) (by decide) dX1_isSmall_17 () (Or.inr ⟨rfl, fun z => absurd z.2 (Int32.not_le.mpr c_9)⟩) hW
    · refine lv_iconst (v := 1) hx hb dX1_isSmall_12 (by decide) ?_
      refine lv_goto (tgt := 17) hx hb dX1_isSmall_13 (by decide) ?_
      exact re_z hF hRt hLk hQ (by omega) (by omega) (by decide) dX1_isSmall_17 () (Or.inl ⟨rfl, Int32.not_lt.mp c_3, Int32.not_lt.mp c_9⟩) hW

set_option maxRecDepth 100000 in
set_option maxHeartbeats 4000000 in
theorem mX1_next (l : Launch) (G : pG) (ad : Nat → Nat) (x : XV) (T : va_W) (v lt0 : Nat → Int32) (wd0 : Option Nat) (e0 n : Nat) (hn : n ≤ 300) (hsz : v 14 = nI n) (he : v 15 = nI e0) (hen : e0 ≤ n) : Met l yX1_next (ws_ yX1_next cX1_next 3 none) ({ frames := 4, cells := 2, slots := 14, locals := 99 } : Room) (va_Pc [.ref (ad 2)] (fun U => pW G (HWl G ad (rdx x v lt0 wd0) ++ T) U)) (va_Qv (fun (u : RS) => u.1 14 = nI n ∧ u.1 15 = nI (tkE (x.2.1 0) n e0) ∧ u.1 16 = nI (tkK (x.2.1 0) n e0) ∧ u.1 17 = nI (skA (x.2.1 0) n e0) ∧ (tkK (x.2.1 0) n e0 = 2 → ∃ a, u.2.2.1 = some a ∧ HS G u.2.2.2 a (tkW (x.2.1 0) n e0))) (fun (u : RS) t9 => pW G (HWl G ad (rdx x u.1 u.2.1 u.2.2.1) ++ (T ++ u.2.2.2)) t9) (pA G)) 2 14 (pA G) := by
  refine mw (by decide) (Nat.le_of_ble_eq_true rfl) ?_
  intro pp ee R s m below meth c ls Q hF hRt hLk hnm hR hQ hW hl
  have hx := hF.1
  have hb := hF.2.1
  have hts := hF.2.2.2.2
  have hR1 : R.frames = 4 := by rw [hR]
  have hR2 : R.cells = 2 := by rw [hR]
  have hR3 : R.slots = 14 := by rw [hR]
  have hR4 : R.locals = 99 := by rw [hR]
  have hl : lv_has ls 3 [(0, .ref (ad 2))] := hl
  have hW : pM G (HWl G ad (rdx x v lt0 wd0) ++ T) s s.heap [] := hW
  refine lv_aload_n hx hb dX1_next_0 rfl (lv_at hl 0 rfl) ?_
  refine gH2_end hF hW q187 (v := nI e0) (he) dX1_next_1 ?_
  refine lv_istore_n (lv' := [(1, .int (nI e0)), (0, .ref (ad 2))]) hx hb dX1_next_4 rfl hl (by decide) rfl (fun ls hl => ?_)
  have loop_5 : ∀ (nn : Nat) (k : Nat) (H : Heap) (locs : List Loc) (ls : Array Slot), n - k < nn → (e0 ≤ k ∧ k ≤ n) → (skA (x.2.1 0) n e0 = skA (x.2.1 0) n k) → pM G (HWl G ad (rdx x v lt0 wd0) ++ T) s H locs → lv_has ls 3 [(0, .ref (ad 2)), (1, .int (nI k))] → W pp l ee R s m ([.ref (ad 2)] : List Value).toArray below meth c H locs 0 0 Q (F0 m 5 ls []) := by
    intro nn
    induction nn with
    | zero => intro k H locs ls hm; exact absurd hm (Nat.not_lt_zero _)
    | succ nn ih =>
      intro k H locs ls hm hk hsk hW hl
      refine lv_aload_n hx hb dX1_next_5 rfl (lv_at hl 0 rfl) ?_
      refine lv_iload_n hx hb dX1_next_6 rfl (lv_at hl 1 rfl) ?_
      refine cl_i (ru_V (As := [.int (nI k)]) (rest := []) hF (mX1_see l G ad (rdx x v lt0 wd0) T k n hn hsz (by omega)) (cwV 1 hts (lw_V q386 q388 qs6 q60 q389) rfl rfl rfl (by decide +kernel) ⟨lb hR1 rfl, lb hR4 rfl⟩) hW (List.mem_of_getElem? (i := 2) rfl) (ci := 1) rfl rfl rfl hl.1 rfl (lv_room (Nat.le_of_ble_eq_true rfl)) dX1_next_7 ⟨by omega, by omega⟩) hW (fun r_1 u_2 H locs h_3 hW => ?_)
      obtain rfl : r_1 = seeV (x.2.1 0) n k := h_3
      have hW : pM G (HWl G ad (rdx x v lt0 wd0) ++ T) s _ _ := hW
      refine lv_bipush (v := 32) hx hb dX1_next_10 (by decide) ?_
      refine lv_icmp_ne (tgt := 21) hx hb dX1_next_12 (by decide) (fun c_12 => ?_) (fun c_12 => ?_)
      · have hnsp : ¬ (k < n ∧ cod ((x.2.1 0) k) = 32) := fun z => c_12 ((seeV_eq (c := 32) (by omega)).mpr z)
        have hA : skA (x.2.1 0) n e0 = k := hsk.trans (skA_stop hnsp)
        refine lv_aload_n hx hb dX1_next_21 rfl (lv_at hl 0 rfl) ?_
        refine lv_iload_n hx hb dX1_next_22 rfl (lv_at hl 1 rfl) ?_
        refine pH2_at hF hW q189 dX1_next_23 (fun H locs hW => ?_)
        have hW : pM G (HWl G ad (xi (rdx x v lt0 wd0) 17 (nI k)) ++ T) s _ _ := hW
        refine lv_aload_n hx hb dX1_next_26 rfl (lv_at hl 0 rfl) ?_
        refine lv_iload_n hx hb dX1_next_27 rfl (lv_at hl 1 rfl) ?_
        refine lv_iconst (v := 1) hx hb dX1_next_28 (by decide) ?_
        refine lv_iadd hx hb dX1_next_29 ?_
        refine lv_eqi (show (nI k) + 1 = nI (k + 1) from nI_add k 1) ?_
        refine pH2_end hF hW q187 dX1_next_30 (fun H locs hW => ?_)
        have hW : pM G (HWl G ad (xi (xi (rdx x v lt0 wd0) 15 (nI (k + 1))) 17 (nI k)) ++ T) s _ _ := hW
        refine lv_aload_n hx hb dX1_next_33 rfl (lv_at hl 0 rfl) ?_
        refine lv_iload_n hx hb dX1_next_34 rfl (lv_at hl 1 rfl) ?_
        refine cl_i (ru_V (As := [.int (nI k)]) (rest := []) hF (mX1_see l G ad (xi (xi (rdx x v lt0 wd0) 15 (nI (k + 1))) 17 (nI k)) T k n hn hsz (by omega)) (cwV 1 hts (lw_V q386 q388 qs6 q60 q389) rfl rfl rfl (by decide +kernel) ⟨lb hR1 rfl, lb hR4 rfl⟩) hW (List.mem_of_getElem? (i := 2) rfl) (ci := 1) rfl rfl rfl hl.1 rfl (lv_room (Nat.le_of_ble_eq_true rfl)) dX1_next_35 ⟨by omega, by omega⟩) hW (fun r_4 u_5 H locs h_6 hW => ?_)
        obtain rfl : r_4 = seeV (x.2.1 0) n k := h_6
        have hW : pM G (HWl G ad (xi (xi (rdx x v lt0 wd0) 15 (nI (k + 1))) 17 (nI k)) ++ T) s _ _ := hW
        refine lv_istore_n (lv' := [(2, .int (seeV (x.2.1 0) n k)), (0, .ref (ad 2)), (1, .int (nI k))]) hx hb dX1_next_38 rfl hl (by decide) rfl (fun ls hl => ?_)
        refine lv_iload_n hx hb dX1_next_39 rfl (lv_at hl 0 rfl) ?_
        refine lv_iconst (v := (-1)) hx hb dX1_next_40 (by decide) ?_
        refine lv_icmp_ne (tgt := 57) hx hb dX1_next_41 (by decide) (fun c_41 => ?_) (fun c_41 => ?_)
        · have hkn : k < n := Decidable.not_not.mp (fun z => c_41 (seeV_m1.mpr z))
          refine lv_iload_n hx hb dX1_next_57 rfl (lv_at hl 0 rfl) ?_
          refine cl_i (ru_S (As := [.int (seeV (x.2.1 0) n k)]) (rest := []) hF (mX1_isSmall l G (HWl G ad (xi (xi (rdx x v lt0 wd0) 15 (nI (k + 1))) 17 (nI k)) ++ T) (seeV (x.2.1 0) n k)) (va_cwS 1 hts (lw_S q390 q391 q60 q392) rfl rfl rfl (by decide +kernel) ⟨lb hR1 rfl, lb hR4 rfl⟩) hW rfl rfl hl.1 rfl (lv_room (Nat.le_of_ble_eq_true rfl)) dX1_next_58 ⟨by omega, by omega⟩) hW (fun r_7 u_8 H locs h_9 hW => ?_)
          have hW : pM G (HWl G ad (xi (xi (rdx x v lt0 wd0) 15 (nI (k + 1))) 17 (nI k)) ++ T) s _ _ := hW
          rcases h_9 with ⟨rfl, b_58⟩ | ⟨rfl, b_58⟩
          · refine lv_if_eq (tgt := 185) hx hb dX1_next_61 (by decide) (fun c_61 => absurd c_61 (by decide)) (fun c_61 => ?_)
            have hL := (seeV_L.mp b_58).2
            refine lv_aload_n hx hb dX1_next_64 rfl (lv_at hl 1 rfl) ?_
            refine lv_iload_n hx hb dX1_next_65 rfl (lv_at hl 2 rfl) ?_
            refine pH2_end hF hW q187 dX1_next_66 (fun H locs hW => ?_)
            have hW : pM G (HWl G ad (xi (xi (rdx x v lt0 wd0) 15 (nI k)) 17 (nI k)) ++ T) s _ _ := hW
            have loop_69 : ∀ (nn : Nat) (j : Nat) (lt : Nat → Int32) (H : Heap) (locs : List Loc) (ls : Array Slot), n - j < nn → (k ≤ j ∧ j ≤ n) → (wnA (x.2.1 0) n k = wnA (x.2.1 0) n j) → (∀ q, k ≤ q → q < j → q < n ∧ isL (cod ((x.2.1 0) q))) → (∀ i, i < j - k → i < 10 → lt i = nI (cod ((x.2.1 0) (k + i)))) → pM G (HWl G ad (xa (xi (xi (rdx x v lt0 wd0) 15 (nI j)) 17 (nI k)) 1 lt) ++ T) s H locs → lv_has ls 3 [(0, .ref (ad 2)), (1, .int (nI k)), (2, .int (seeV (x.2.1 0) n k))] → W pp l ee R s m ([.ref (ad 2)] : List Value).toArray below meth c H locs (((0 + 0) + 0) + 0) (((0 + 0) + 0) + 0) Q (F0 m 69 ls []) := by
              intro nn
              induction nn with
              | zero => intro j lt H locs ls hm; exact absurd hm (Nat.not_lt_zero _)
              | succ nn ih =>
                intro j lt H locs ls hm hj hwn hall hlt hW hl
                refine lv_aload_n hx hb dX1_next_69 rfl (lv_at hl 0 rfl) ?_
                refine lv_aload_n hx hb dX1_next_70 rfl (lv_at hl 0 rfl) ?_
                refine gH2_end hF hW q187 (v := nI j) (rfl) dX1_next_71 ?_
                refine cl_i (ru_V (As := [.int (nI j)]) (rest := []) hF (mX1_see l G ad (xa (xi (xi (rdx x v lt0 wd0) 15 (nI j)) 17 (nI k)) 1 lt) T j n hn hsz (by omega)) (cwV 1 hts (lw_V q386 q388 qs6 q60 q389) rfl rfl rfl (by decide +kernel) ⟨lb hR1 rfl, lb hR4 rfl⟩) hW (List.mem_of_getElem? (i := 2) rfl) (ci := 1) rfl rfl rfl hl.1 rfl (lv_room (Nat.le_of_ble_eq_true rfl)) dX1_next_74 ⟨by omega, by omega⟩) hW (fun r_10 u_11 H locs h_12 hW => ?_)
                obtain rfl : r_10 = seeV (x.2.1 0) n j := h_12
                have hW : pM G (HWl G ad (xa (xi (xi (rdx x v lt0 wd0) 15 (nI j)) 17 (nI k)) 1 lt) ++ T) s _ _ := hW
                refine cl_i (ru_S (As := [.int (seeV (x.2.1 0) n j)]) (rest := []) hF (mX1_isSmall l G (HWl G ad (xa (xi (xi (rdx x v lt0 wd0) 15 (nI j)) 17 (nI k)) 1 lt) ++ T) (seeV (x.2.1 0) n j)) (va_cwS 1 hts (lw_S q390 q391 q60 q392) rfl rfl rfl (by decide +kernel) ⟨lb hR1 rfl, lb hR4 rfl⟩) hW rfl rfl hl.1 rfl (lv_room (Nat.le_of_ble_eq_true rfl)) dX1_next_77 ⟨by omega, by omega⟩) hW (fun r_13 u_14 H locs h_15 hW => ?_)
                have hW : pM G (HWl G ad (xa (xi (xi (rdx x v lt0 wd0) 15 (nI j)) 17 (nI k)) 1 lt) ++ T) s _ _ := hW
                rcases h_15 with ⟨rfl, b_77⟩ | ⟨rfl, b_77⟩
                · refine lv_if_eq (tgt := 127) hx hb dX1_next_80 (by decide) (fun c_80 => absurd c_80 (by decide)) (fun c_80 => ?_)
                  have hjl := seeV_L.mp b_77
                  have hjl1 := hjl.1
                  refine lv_aload_n hx hb dX1_next_83 rfl (lv_at hl 0 rfl) ?_
                  refine gH2_end hF hW q187 (v := nI j) (rfl) dX1_next_84 ?_
                  refine lv_iload_n hx hb dX1_next_87 rfl (lv_at hl 1 rfl) ?_
                  refine lv_isub hx hb dX1_next_88 ?_
                  refine lv_eqi (show (nI j) - (nI k) = nI (j - k) from pk_sub (by omega)) ?_
                  refine lv_bipush (v := 10) hx hb dX1_next_89 (by decide) ?_
                  refine lv_icmp_ge (tgt := 114) hx hb dX1_next_91 (by decide) (fun c_91 => ?_) (fun c_91 => ?_)
                  · refine lv_aload_n hx hb dX1_next_114 rfl (lv_at hl 0 rfl) ?_
                    refine lv_dup hx hb dX1_next_115 rfl ?_
                    refine gH2_end hF hW q187 (v := nI j) (rfl) dX1_next_116 ?_
                    refine lv_iconst (v := 1) hx hb dX1_next_119 (by decide) ?_
                    refine lv_iadd hx hb dX1_next_120 ?_
                    refine lv_eqi (show (nI j) + 1 = nI (j + 1) from nI_add j 1) ?_
                    refine pH2_end hF hW q187 dX1_next_121 (fun H locs hW => ?_)
                    have hW : pM G (HWl G ad (xa (xi (xi (rdx x v lt0 wd0) 15 (nI (j + 1))) 17 (nI k)) 1 lt) ++ T) s _ _ := hW
                    refine lv_goto (tgt := 69) hx hb dX1_next_124 (by decide) ?_
                    exact W.widen (by omega) (by omega) (ih (j + 1) lt H locs ls (by omega) (by omega) (hwn.trans (wnA_step hjl)) (fun q h1 h2 => if h : q = j then h ▸ hjl else hall q h1 (by omega)) (fun i h1 h2 => hlt i (by have := le_le (a := 10) c_91; omega) h2) hW (lv_sub hl [0, 1, 2] rfl))
                  · refine lv_aload_n hx hb dX1_next_94 rfl (lv_at hl 0 rfl) ?_
                    refine gH2_letters hF hW q185 dX1_next_95 ?_
                    refine lv_aload_n hx hb dX1_next_98 rfl (lv_at hl 0 rfl) ?_
                    refine gH2_end hF hW q187 (v := nI j) (rfl) dX1_next_99 ?_
                    refine lv_iload_n hx hb dX1_next_102 rfl (lv_at hl 1 rfl) ?_
                    refine lv_isub hx hb dX1_next_103 ?_
                    refine lv_eqi (show (nI j) - (nI k) = nI (j - k) from pk_sub (by omega)) ?_
                    refine lv_aload_n hx hb dX1_next_104 rfl (lv_at hl 0 rfl) ?_
                    refine lv_aload_n hx hb dX1_next_105 rfl (lv_at hl 0 rfl) ?_
                    refine gH2_end hF hW q187 (v := nI j) (rfl) dX1_next_106 ?_
                    refine cl_i (ru_V (As := [.int (nI j)]) (rest := [.int (nI (j - k)), .ref (ad 3)]) hF (mX1_see l G ad (xa (xi (xi (rdx x v lt0 wd0) 15 (nI j)) 17 (nI k)) 1 lt) T j n hn hsz (by omega)) (cwV 1 hts (lw_V q386 q388 qs6 q60 q389) rfl rfl rfl (by decide +kernel) ⟨lb hR1 rfl, lb hR4 rfl⟩) hW (List.mem_of_getElem? (i := 2) rfl) (ci := 1) rfl rfl rfl hl.1 rfl (lv_room (Nat.le_of_ble_eq_true rfl)) dX1_next_109 ⟨by omega, by omega⟩) hW (fun r_16 u_17 H locs h_18 hW => ?_)
                    obtain rfl : r_16 = seeV (x.2.1 0) n j := h_18
                    have hW : pM G (HWl G ad (xa (xi (xi (rdx x v lt0 wd0) 15 (nI j)) 17 (nI k)) 1 lt) ++ T) s _ _ := hW
                    refine lv_i2c hx hb dX1_next_112 rfl ?_
                    refine sH3 hF hW (j := (j - k)) (rfl) (by have := nle_lt (a := 10) c_91; omega) dX1_next_113 (fun H locs hW => ?_)
                    have hW : pM G (HWl G ad (xa (xi (xi (rdx x v lt0 wd0) 15 (nI j)) 17 (nI k)) 1 (va_up (lt) (j - k) (vp_nar .char (((seeV (x.2.1 0) n j).toUInt32 % 65536).toInt32)))) ++ T) s _ _ := hW
                    refine lv_aload_n hx hb dX1_next_114 rfl (lv_at hl 0 rfl) ?_
                    refine lv_dup hx hb dX1_next_115 rfl ?_
                    refine gH2_end hF hW q187 (v := nI j) (rfl) dX1_next_116 ?_
                    refine lv_iconst (v := 1) hx hb dX1_next_119 (by decide) ?_
                    refine lv_iadd hx hb dX1_next_120 ?_
                    refine lv_eqi (show (nI j) + 1 = nI (j + 1) from nI_add j 1) ?_
                    refine pH2_end hF hW q187 dX1_next_121 (fun H locs hW => ?_)
                    have hW : pM G (HWl G ad (xa (xi (xi (rdx x v lt0 wd0) 15 (nI (j + 1))) 17 (nI k)) 1 (va_up (lt) (j - k) (vp_nar .char (((seeV (x.2.1 0) n j).toUInt32 % 65536).toInt32)))) ++ T) s _ _ := hW
                    refine lv_goto (tgt := 69) hx hb dX1_next_124 (by decide) ?_
                    exact W.widen (by omega) (by omega) (ih (j + 1) (va_up (lt) (j - k) (vp_nar .char (((seeV (x.2.1 0) n j).toUInt32 % 65536).toInt32))) H locs ls (by omega) (by omega) (hwn.trans (wnA_step hjl)) (fun q h1 h2 => if h : q = j then h ▸ hjl else hall q h1 (by omega)) (fun i h1 h2 => if h : i = j - k then by rw [h, up_s, (show seeV (x.2.1 0) n j = nI (cod ((x.2.1 0) j)) from if_pos hjl1), nar_c (cod_lt _), show k + (j - k) = j by omega] else by rw [up_n h]; exact hlt i (by omega) h2) hW (lv_sub hl [0, 1, 2] rfl))
                · refine lv_if_eq (tgt := 127) hx hb dX1_next_80 (by decide) (fun c_80 => ?_) (fun c_80 => absurd c_80 (by decide))
                  have hnj : ¬ (j < n ∧ isL (cod ((x.2.1 0) j))) := fun z => b_77 (seeV_L.mpr z)
                  have hW2 : wnA (x.2.1 0) n k = j := hwn.trans (wnA_stop hnj)
                  refine lv_aload_n hx hb dX1_next_127 rfl (lv_at hl 0 rfl) ?_
                  refine lv_aload_n hx hb dX1_next_128 rfl (lv_at hl 0 rfl) ?_
                  refine gH2_end hF hW q187 (v := nI j) (rfl) dX1_next_129 ?_
                  refine lv_iload_n hx hb dX1_next_132 rfl (lv_at hl 1 rfl) ?_
                  refine lv_isub hx hb dX1_next_133 ?_
                  refine lv_eqi (show (nI j) - (nI k) = nI (j - k) from pk_sub (by omega)) ?_
                  refine lv_bipush (v := 10) hx hb dX1_next_134 (by decide) ?_
                  refine lv_icmp_le (tgt := 143) hx hb dX1_next_136 (by decide) (fun c_136 => ?_) (fun c_136 => ?_)
                  · refine lv_iconst (v := 2) hx hb dX1_next_143 (by decide) ?_
                    refine pH2_token hF hW q188 dX1_next_144 (fun H locs hW => ?_)
                    have hW : pM G (HWl G ad (xa (xi (xi (xi (rdx x v lt0 wd0) 15 (nI j)) 16 2) 17 (nI k)) 1 lt) ++ T) s _ _ := hW
                    refine lv_aload_n hx hb dX1_next_147 rfl (lv_at hl 0 rfl) ?_
                    refine lv_aload_n hx hb dX1_next_148 rfl (lv_at hl 0 rfl) ?_
                    refine gH2_token hF hW q188 (v := 2) (rfl) dX1_next_149 ?_
                    refine lv_iconst (v := 2) hx hb dX1_next_152 (by decide) ?_
                    refine lv_icmp_ne (tgt := 177) hx hb dX1_next_153 (by decide) (fun c_153 => absurd c_153 (by decide)) (fun c_153 => ?_)
                    refine nw (ci := 19) hF hW rfl in_J3 tyJ3 tyJ3_ok q393 q394 q69 (fs := [.null, .int 0, .int 0, .int 0]) (fun j hj => by match j, hj with | 0, _ => rfl | 1, _ => rfl | 2, _ => rfl | 3, _ => rfl) (by omega) (by omega) dX1_next_156 (fun qo_19 H hW => ?_)
                    have hW := hW.asc
                    have hW : pM G (HWl G ad (xa (xi (xi (xi (rdx x v lt0 wd0) 15 (nI j)) 16 2) 17 (nI k)) 1 lt) ++ (T ++ [(qo_19, .inr (19, [.null, .int 0, .int 0, .int 0]))])) s _ _ := hW
                    refine lv_dup hx hb dX1_next_159 rfl ?_
                    refine lv_aload_n hx hb dX1_next_160 rfl (lv_at hl 0 rfl) ?_
                    refine gH2_letters hF hW q185 dX1_next_161 ?_
                    refine lv_iconst (v := 0) hx hb dX1_next_164 (by decide) ?_
                    refine lv_aload_n hx hb dX1_next_165 rfl (lv_at hl 0 rfl) ?_
                    refine gH2_end hF hW q187 (v := nI j) (rfl) dX1_next_166 ?_
                    refine lv_iload_n hx hb dX1_next_169 rfl (lv_at hl 1 rfl) ?_
                    refine lv_isub hx hb dX1_next_170 ?_
                    refine lv_eqi (show (nI j) - (nI k) = nI (j - k) from pk_sub (by omega)) ?_
                    have hW := pM.csa (A := HWl G ad (xa (xi (xi (xi (rdx x v lt0 wd0) 15 (nI j)) 16 2) 17 (nI k)) 1 lt)) (B := T) hW
                    have hle : j - k ≤ 10 := le_le (b := 10) c_136
                    have hge : 1 ≤ j - k := by have : ¬ j = k := fun z => hnj (by rw [z]; exact ⟨hkn, hL⟩); omega
                    refine cl_v (ru_I (As := [.ref (ad 3), .int 0, .int (nI (j - k))]) (rest := [.ref qo_19, .ref (ad 2)]) hF (mJ3_init l G (HWl G ad (xa (xi (xi (xi (rdx x v lt0 wd0) 15 (nI j)) 16 2) 17 (nI k)) 1 lt) ++ T) qo_19 (ad 3) 10 (j - k) lt (fun i => cod ((x.2.1 0) (k + i))) (ms_l (List.mem_of_getElem? (i := 3) rfl)) (by omega) (by omega) hge hle (fun i hi => ⟨hlt i hi (by omega), by have := (hall (k + i) (by omega) (by omega)).2; omega⟩)) (cwI 3 hts (lw_meth q397) rfl rfl rfl (hts _ q69) (hts _ q395) (hts _ q396) rfl (by decide +kernel) ⟨lb hR1 rfl, lb hR4 rfl⟩) hW rfl rfl hl.1 rfl (lv_room (Nat.le_of_ble_eq_true rfl)) dX1_next_171 ⟨by omega, by omega⟩) hW (fun u_20 H locs h_21 hW => ?_)
                    have hW := hW.asc
                    have hW : pM G (HWl G ad (xa (xi (xi (xi (rdx x v lt0 wd0) 15 (nI j)) 16 2) 17 (nI k)) 1 lt) ++ (T ++ [(qo_19, .inr (19, [.ref u_20.1, .int 0, .int 0, .int 0])), (u_20.1, .inl (G.2.2.1 1, (j - k), .inl u_20.2))])) s _ _ := hW
                    refine lv_goto (tgt := 179) hx hb dX1_next_174 (by decide) ?_
                    refine pH2_word hF hW q190 dX1_next_179 (fun H locs hW => ?_)
                    have hW : pM G (HWl G ad (xf (xa (xi (xi (xi (rdx x v lt0 wd0) 15 (nI j)) 16 2) 17 (nI k)) 1 lt) 0 (some qo_19)) ++ (T ++ [(qo_19, .inr (19, [.ref u_20.1, .int 0, .int 0, .int 0])), (u_20.1, .inl (G.2.2.1 1, (j - k), .inl u_20.2))])) s _ _ := hW
                    refine lv_goto (tgt := 206) hx hb dX1_next_182 (by decide) ?_
                    have hK : tkK (x.2.1 0) n e0 = 2 := by unfold tkK; rw [hA, if_pos hkn, if_pos hL, if_pos (by have := le_le (b := 10) c_136; rw [hW2]; omega)]
                    have hE : tkE (x.2.1 0) n e0 = j := by unfold tkE; rw [hA, if_pos hkn, if_pos hL, hW2]
                    have hTW : tkW (x.2.1 0) n e0 = (List.range (j - k)).map (fun i => cod ((x.2.1 0) (k + i))) := by unfold tkW; rw [hA, hW2]
                    have hlen : (tkW (x.2.1 0) n e0).length = j - k := by unfold tkW; rw [List.length_map, List.length_range, hA, hW2]
                    exact re_v hF hRt hLk hQ (by omega) (by omega) dX1_next_206 (va_up (va_up (va_up v 15 (nI j)) 16 2) 17 (nI k), lt, some qo_19, [(qo_19, .inr (19, [.ref u_20.1, .int 0, .int 0, .int 0])), (u_20.1, .inl (G.2.2.1 1, (j - k), .inl u_20.2))]) (⟨hsz, by rw [hE]; rfl, by rw [hK]; rfl, by rw [hA]; rfl, fun _ => ⟨qo_19, rfl, u_20.1, u_20.2, List.mem_cons_self, (by rw [hlen]; exact List.mem_cons_of_mem _ List.mem_cons_self), by rw [hlen]; exact hle, fun i hi => by rw [hlen] at hi; rw [hTW, map_getD _ _ hi]; exact ⟨h_21 i hi, cod_lt _⟩⟩⟩) hW
                  · refine lv_iconst (v := 1) hx hb dX1_next_139 (by decide) ?_
                    refine lv_goto (tgt := 144) hx hb dX1_next_140 (by decide) ?_
                    refine pH2_token hF hW q188 dX1_next_144 (fun H locs hW => ?_)
                    have hW : pM G (HWl G ad (xa (xi (xi (xi (rdx x v lt0 wd0) 15 (nI j)) 16 1) 17 (nI k)) 1 lt) ++ T) s _ _ := hW
                    refine lv_aload_n hx hb dX1_next_147 rfl (lv_at hl 0 rfl) ?_
                    refine lv_aload_n hx hb dX1_next_148 rfl (lv_at hl 0 rfl) ?_
                    refine gH2_token hF hW q188 (v := 1) (rfl) dX1_next_149 ?_
                    refine lv_iconst (v := 2) hx hb dX1_next_152 (by decide) ?_
                    refine lv_icmp_ne (tgt := 177) hx hb dX1_next_153 (by decide) (fun c_153 => ?_) (fun c_153 => absurd c_153 (by decide))
                    refine va_ldcS hx hb hF.2.2.2.1 hW.2.2.2.2.2.2.2.2.2.2.2 dX1_next_177 ?_
                    refine pH2_word hF hW q190 dX1_next_179 (fun H locs hW => ?_)
                    have hW : pM G (HWl G ad (xf (xa (xi (xi (xi (rdx x v lt0 wd0) 15 (nI j)) 16 1) 17 (nI k)) 1 lt) 0 (some G.2.2.2.2)) ++ T) s _ _ := hW
                    refine lv_goto (tgt := 206) hx hb dX1_next_182 (by decide) ?_
                    have hK : tkK (x.2.1 0) n e0 = 1 := by unfold tkK; rw [hA, if_pos hkn, if_pos hL, if_neg (by have := nle_lt (b := 10) c_136; rw [hW2]; omega)]
                    have hE : tkE (x.2.1 0) n e0 = j := by unfold tkE; rw [hA, if_pos hkn, if_pos hL, hW2]
                    exact re_v hF hRt hLk hQ (by omega) (by omega) dX1_next_206 (va_up (va_up (va_up v 15 (nI j)) 16 1) 17 (nI k), lt, some G.2.2.2.2, []) (⟨hsz, by rw [hE]; rfl, by rw [hK]; rfl, by rw [hA]; rfl, fun z => absurd z (by rw [hK]; decide)⟩) (by rw [List.append_nil]; exact hW)
            exact loop_69 _ k lt0 _ _ _ (Nat.lt_succ_self _) (by omega) (rfl) (fun q h1 h2 => absurd h1 (by omega)) (fun i hi _ => absurd hi (by omega)) hW (lv_sub hl [1, 2, 0] rfl)
          · refine lv_if_eq (tgt := 185) hx hb dX1_next_61 (by decide) (fun c_61 => ?_) (fun c_61 => absurd c_61 (by decide))
            have hL : ¬ isL (cod ((x.2.1 0) k)) := fun z => b_58 (seeV_L.mpr ⟨hkn, z⟩)
            refine lv_aload_n hx hb dX1_next_185 rfl (lv_at hl 1 rfl) ?_
            refine lv_iload_n hx hb dX1_next_186 rfl (lv_at hl 0 rfl) ?_
            refine lv_bipush (v := 58) hx hb dX1_next_187 (by decide) ?_
            refine lv_icmp_eq (tgt := 198) hx hb dX1_next_189 (by decide) (fun c_189 => ?_) (fun c_189 => ?_)
            · refine lv_iload_n hx hb dX1_next_198 rfl (lv_at hl 0 rfl) ?_
              refine lv_eqi (show seeV (x.2.1 0) n k = 58 from c_189) ?_
              refine lv_goto (tgt := 203) hx hb dX1_next_199 (by decide) ?_
              refine pH2_token hF hW q188 dX1_next_203 (fun H locs hW => ?_)
              have hW : pM G (HWl G ad (xi (xi (xi (rdx x v lt0 wd0) 15 (nI (k + 1))) 16 58) 17 (nI k)) ++ T) s _ _ := hW
              have hE : tkE (x.2.1 0) n e0 = k + 1 := by unfold tkE; rw [hA, if_pos hkn, if_neg hL]
              have h58 := ((seeV_eq (c := 58) (by omega)).mp c_189).2
              have hK : tkK (x.2.1 0) n e0 = 58 := by unfold tkK; rw [hA, if_pos hkn, if_neg hL, if_pos h58]
              exact re_v hF hRt hLk hQ (by omega) (by omega) dX1_next_206 (va_up (va_up (va_up v 15 (nI (k + 1))) 16 58) 17 (nI k), lt0, wd0, []) (⟨hsz, by rw [hE]; rfl, by rw [hK]; rfl, by rw [hA]; rfl, fun z => absurd z (by rw [hK]; decide)⟩) (by rw [List.append_nil]; exact hW)
            · refine lv_iload_n hx hb dX1_next_192 rfl (lv_at hl 0 rfl) ?_
              refine lv_bipush (v := 59) hx hb dX1_next_193 (by decide) ?_
              refine lv_icmp_ne (tgt := 202) hx hb dX1_next_195 (by decide) (fun c_195 => ?_) (fun c_195 => ?_)
              · refine lv_iconst (v := 1) hx hb dX1_next_202 (by decide) ?_
                refine pH2_token hF hW q188 dX1_next_203 (fun H locs hW => ?_)
                have hW : pM G (HWl G ad (xi (xi (xi (rdx x v lt0 wd0) 15 (nI (k + 1))) 16 1) 17 (nI k)) ++ T) s _ _ := hW
                have hE : tkE (x.2.1 0) n e0 = k + 1 := by unfold tkE; rw [hA, if_pos hkn, if_neg hL]
                have h58 : ¬ cod ((x.2.1 0) k) = 58 := fun z => c_189 ((seeV_eq (c := 58) (by omega)).mpr ⟨hkn, z⟩)
                have h59 : ¬ cod ((x.2.1 0) k) = 59 := fun z => c_195 ((seeV_eq (c := 59) (by omega)).mpr ⟨hkn, z⟩)
                have hK : tkK (x.2.1 0) n e0 = 1 := by unfold tkK; rw [hA, if_pos hkn, if_neg hL, if_neg h58, if_neg h59]
                exact re_v hF hRt hLk hQ (by omega) (by omega) dX1_next_206 (va_up (va_up (va_up v 15 (nI (k + 1))) 16 1) 17 (nI k), lt0, wd0, []) (⟨hsz, by rw [hE]; rfl, by rw [hK]; rfl, by rw [hA]; rfl, fun z => absurd z (by rw [hK]; decide)⟩) (by rw [List.append_nil]; exact hW)
              · refine lv_iload_n hx hb dX1_next_198 rfl (lv_at hl 0 rfl) ?_
                refine lv_eqi (show seeV (x.2.1 0) n k = 59 from c_195) ?_
                refine lv_goto (tgt := 203) hx hb dX1_next_199 (by decide) ?_
                refine pH2_token hF hW q188 dX1_next_203 (fun H locs hW => ?_)
                have hW : pM G (HWl G ad (xi (xi (xi (rdx x v lt0 wd0) 15 (nI (k + 1))) 16 59) 17 (nI k)) ++ T) s _ _ := hW
                have hE : tkE (x.2.1 0) n e0 = k + 1 := by unfold tkE; rw [hA, if_pos hkn, if_neg hL]
                have h58 : ¬ cod ((x.2.1 0) k) = 58 := fun z => c_189 ((seeV_eq (c := 58) (by omega)).mpr ⟨hkn, z⟩)
                have h59 := ((seeV_eq (c := 59) (by omega)).mp c_195).2
                have hK : tkK (x.2.1 0) n e0 = 59 := by unfold tkK; rw [hA, if_pos hkn, if_neg hL, if_neg h58, if_pos h59]
                exact re_v hF hRt hLk hQ (by omega) (by omega) dX1_next_206 (va_up (va_up (va_up v 15 (nI (k + 1))) 16 59) 17 (nI k), lt0, wd0, []) (⟨hsz, by rw [hE]; rfl, by rw [hK]; rfl, by rw [hA]; rfl, fun z => absurd z (by rw [hK]; decide)⟩) (by rw [List.append_nil]; exact hW)
        · have hkn : ¬ k < n := seeV_m1.mp c_41
          refine lv_aload_n hx hb dX1_next_44 rfl (lv_at hl 1 rfl) ?_
          refine lv_iconst (v := 0) hx hb dX1_next_45 (by decide) ?_
          refine pH2_token hF hW q188 dX1_next_46 (fun H locs hW => ?_)
          have hW : pM G (HWl G ad (xi (xi (xi (rdx x v lt0 wd0) 15 (nI (k + 1))) 16 0) 17 (nI k)) ++ T) s _ _ := hW
          refine lv_aload_n hx hb dX1_next_49 rfl (lv_at hl 1 rfl) ?_
          refine lv_iload_n hx hb dX1_next_50 rfl (lv_at hl 2 rfl) ?_
          refine pH2_end hF hW q187 dX1_next_51 (fun H locs hW => ?_)
          have hW : pM G (HWl G ad (xi (xi (xi (rdx x v lt0 wd0) 15 (nI k)) 16 0) 17 (nI k)) ++ T) s _ _ := hW
          refine lv_goto (tgt := 206) hx hb dX1_next_54 (by decide) ?_
          have hK : tkK (x.2.1 0) n e0 = 0 := by unfold tkK; rw [hA, if_neg hkn]
          have hE : tkE (x.2.1 0) n e0 = k := by unfold tkE; rw [hA, if_neg hkn]
          exact re_v hF hRt hLk hQ (by omega) (by omega) dX1_next_206 (va_up (va_up (va_up v 15 (nI k)) 16 0) 17 (nI k), lt0, wd0, []) (⟨hsz, by rw [hE]; rfl, by rw [hK]; rfl, by rw [hA]; rfl, fun z => absurd z (by rw [hK]; decide)⟩) (by rw [List.append_nil]; exact hW)
      · have hsp := (seeV_eq (c := 32) (by omega)).mp c_12
        refine lv_iinc (v := nI (k + 1)) (lv' := [(1, .int (nI (k + 1))), (0, .ref (ad 2))]) hx hb dX1_next_15 hl (k := 1) rfl (nI_1 _) (by decide) rfl (fun ls hl => ?_)
        refine lv_goto (tgt := 5) hx hb dX1_next_18 (by decide) ?_
        exact W.widen (by omega) (by omega) (ih (k + 1) H locs ls (by omega) (by omega) (hsk.trans (skA_step hsp)) hW (lv_sub hl [1, 0] rfl))
  exact loop_5 _ e0 _ _ _ (Nat.lt_succ_self _) (by omega) (rfl) hW (lv_sub hl [1, 0] rfl)

theorem skp_ge (f : Nat → Int32) (n : Nat) : ∀ g k, k ≤ skp f n g k
  | 0, k => Nat.le_refl k
  | g + 1, k => by
    show k ≤ if _ then _ else _
    split
    · exact Nat.le_trans (Nat.le_succ k) (skp_ge f n g (k + 1))
    · exact Nat.le_refl k
theorem skp_le (f : Nat → Int32) (n : Nat) : ∀ g k, k ≤ n → skp f n g k ≤ n
  | 0, k, h => h
  | g + 1, k, h => by
    show (if _ then _ else _) ≤ n
    split
    · rename_i z
      exact skp_le f n g (k + 1) z.1
    · exact h
theorem wnd_ge (f : Nat → Int32) (n : Nat) : ∀ g k, k ≤ wnd f n g k
  | 0, k => Nat.le_refl k
  | g + 1, k => by
    show k ≤ if _ then _ else _
    split
    · exact Nat.le_trans (Nat.le_succ k) (wnd_ge f n g (k + 1))
    · exact Nat.le_refl k
theorem wnd_le (f : Nat → Int32) (n : Nat) : ∀ g k, k ≤ n → wnd f n g k ≤ n
  | 0, k, h => h
  | g + 1, k, h => by
    show (if _ then _ else _) ≤ n
    split
    · rename_i z
      exact wnd_le f n g (k + 1) z.1
    · exact h
theorem skA_le {f : Nat → Int32} {n e : Nat} (h : e ≤ n) : skA f n e ≤ n := skp_le f n _ _ h
theorem tkE_le {f : Nat → Int32} {n e : Nat} (h : e ≤ n) : tkE f n e ≤ n := by
  have h1 := skA_le (f := f) h
  unfold tkE
  split
  · split
    · exact wnd_le f n _ _ h1
    · omega
  · exact h1
theorem tkE_ge {f : Nat → Int32} {n e : Nat} : e ≤ tkE f n e := by
  have h1 : e ≤ skA f n e := skp_ge f n _ _
  have h2 : skA f n e ≤ wnA f n (skA f n e) := wnd_ge f n _ _
  unfold tkE
  split
  · split
    · omega
    · omega
  · exact h1
theorem tkE_gt {f : Nat → Int32} {n e : Nat} (h : tkK f n e ≠ 0) : e < tkE f n e := by
  have h1 : e ≤ skA f n e := skp_ge f n _ _
  unfold tkK at h
  unfold tkE
  split
  · split
    · rename_i h2 h3
      rw [wnA_step ⟨h2, h3⟩]
      have h4 : skA f n e + 1 ≤ wnA f n (skA f n e + 1) := wnd_ge f n _ _
      omega
    · omega
  · rename_i h2
    rw [if_neg h2] at h
    exact absurd rfl h
theorem tkK_lt (f : Nat → Int32) (n e : Nat) : tkK f n e < 60 := by
  unfold tkK
  split
  · split
    · split <;> omega
    · split
      · omega
      · split <;> omega
  · omega