/-! places in lists; the reader's small methods -/
def pix : List (List Nat) → List Nat → Option Nat
  | [], _ => none
  | a :: l, w => if a = w then some 0 else (pix l w).map (· + 1)
theorem pix_some {w : List Nat} : ∀ {l : List (List Nat)} {k : Nat}, pix l w = some k → k < l.length ∧ l.getD k [] = w
  | [], k, h => by cases h
  | a :: l, k, h => by
    unfold pix at h
    split at h
    · rename_i e
      cases h
      exact ⟨Nat.succ_pos _, e⟩
    · cases hp : pix l w with
      | none => rw [hp] at h; cases h
      | some j =>
        rw [hp] at h
        cases h
        obtain ⟨h1, h2⟩ := pix_some hp
        exact ⟨Nat.succ_lt_succ h1, h2⟩
theorem pix_none {w : List Nat} : ∀ {l : List (List Nat)}, (∀ k, k < l.length → l.getD k [] ≠ w) → pix l w = none
  | [], _ => rfl
  | a :: l, h => by
    unfold pix
    have h0 : ¬ a = w := h 0 (Nat.succ_pos _)
    rw [if_neg h0, pix_none (fun k hk => h (k + 1) (Nat.succ_lt_succ hk))]
    rfl
theorem pix_of {w : List Nat} : ∀ {l : List (List Nat)} {k : Nat}, l.Nodup → k < l.length → l.getD k [] = w → pix l w = some k
  | [], k, _, h, _ => absurd h (Nat.not_lt_zero _)
  | a :: l, 0, _, _, e => if_pos e
  | a :: l, k + 1, hn, h, e => by
    have hn' := List.nodup_cons.mp hn
    have hk : k < l.length := Nat.lt_of_succ_lt_succ h
    have hm : w ∈ l := by
      have e2 : l.getD k [] = w := e
      rw [List.getD_eq_getElem?_getD, List.getElem?_eq_getElem hk] at e2
      rw [← e2]
      exact List.getElem_mem hk
    have h0 : ¬ a = w := fun z => hn'.1 (by rw [z]; exact hm)
    unfold pix
    rw [if_neg h0, pix_of hn'.2 hk e]
    rfl
theorem pix_r1 {l : List (List Nat)} {w : List Nat} {r : Int32} (hn : l.Nodup) (hno : pix l w = none) (h : (∃ k, k < l.length ∧ l.getD k [] = w ∧ r = nI k) ∨ ((∀ k, k < l.length → l.getD k [] ≠ w) ∧ r = -1)) : r = -1 := by
  rcases h with ⟨k, q1, q2, q3⟩ | ⟨-, q3⟩
  · have := pix_of hn q1 q2
    rw [hno] at this
    cases this
  · exact q3
theorem pix_r2 {l : List (List Nat)} {w : List Nat} {r : Int32} {k : Nat} (hn : l.Nodup) (hno : pix l w = some k) (h : (∃ k, k < l.length ∧ l.getD k [] = w ∧ r = nI k) ∨ ((∀ k, k < l.length → l.getD k [] ≠ w) ∧ r = -1)) : r = nI k := by
  rcases h with ⟨k9, q1, q2, q3⟩ | ⟨q1, -⟩
  · have := pix_of hn q1 q2
    rw [hno] at this
    cases this
    exact q3
  · rw [pix_none q1] at hno
    cases hno
abbrev Wrep (G : pG) (T : va_W) (wa : Nat → Option Nat) (wds : List (List Nat)) : Prop := ∀ k, k < wds.length → ∃ sa, wa k = some sa ∧ HS G T sa (wds.getD k [])
abbrev PX4 (flt plc : Nat) (u : RS) : Prop := u.1 18 = 4 ∧ u.1 19 = nI flt ∧ u.1 20 = nI plc

set_option maxRecDepth 100000 in
set_option maxHeartbeats 4000000 in
theorem mX1_fail (l : Launch) (G : pG) (ad : Nat → Nat) (x : XV) (T : va_W) (v lt0 : Nat → Int32) (wd0 : Option Nat) (a0 a1 : Int32) : Met l yX1_fail (ws_ yX1_fail cX1_fail 3 (some (.object "PatentHall$Refused"))) ({ frames := 2, cells := 0, slots := 0, locals := 43 } : Room) (va_Pc [.ref (ad 2), .int a0, .int a1] (fun U => pW G (HWl G ad (rdx x v lt0 wd0) ++ T) U)) (va_Qq (fun r u => r = some (ad 4) ∧ u = va_up (va_up (va_up v 18 4) 19 a0) 20 a1) (fun (u : Nat → Int32) t9 => pW G (HWl G ad (rdx x u lt0 wd0) ++ T) t9) (pA G)) 0 0 (pA G) := by
  refine mw (by decide) (Nat.le_of_ble_eq_true rfl) ?_
  intro pp ee R s m below meth c ls Q hF hRt hLk hnm hR hQ hW hl
  have hx := hF.1
  have hb := hF.2.1
  have hts := hF.2.2.2.2
  have hR1 : R.frames = 2 := by rw [hR]
  have hR2 : R.cells = 0 := by rw [hR]
  have hR3 : R.slots = 0 := by rw [hR]
  have hR4 : R.locals = 43 := by rw [hR]
  have hl : lv_has ls 3 [(0, .ref (ad 2)), (1, .int a0), (2, .int a1)] := hl
  have hW : pM G (HWl G ad (rdx x v lt0 wd0) ++ T) s s.heap [] := hW
  refine lv_aload_n hx hb dX1_fail_0 rfl (lv_at hl 0 rfl) ?_
  refine gH2_wrong hF hW q183 dX1_fail_1 ?_
  refine lv_iload_n hx hb dX1_fail_4 rfl (lv_at hl 1 rfl) ?_
  refine lv_iload_n hx hb dX1_fail_5 rfl (lv_at hl 2 rfl) ?_
  refine cl_q (ru_V (As := [.int a0, .int a1]) (rest := []) hF (mX2_at_4 l G ad (rdx x v lt0 wd0) T a0 a1) (cwV 2 hts (lw_V q587 q588 q589 q64 q590) rfl rfl rfl (by decide +kernel) ⟨lb hR1 rfl, lb hR4 rfl⟩) hW (List.mem_of_getElem? (i := 4) rfl) (ci := 2) rfl rfl rfl hl.1 rfl (lv_room (Nat.le_of_ble_eq_true rfl)) dX1_fail_6 ⟨by omega, by omega⟩) hW (fun r_1 u_2 H locs h_3 hW => ?_)
  obtain ⟨rfl, rfl⟩ : r_1 = some (ad 4) ∧ u_2 = (xi (xi (xi (rdx x v lt0 wd0) 18 4) 19 a0) 20 a1) := h_3
  have hW : pM G (HWl G ad (xi (xi (xi (rdx x v lt0 wd0) 18 4) 19 a0) 20 a1) ++ T) s _ _ := hW
  refine lv_eqv (y := .ref (ad 4)) rfl ?_
  exact re_q hF hRt (Or.inl ⟨_, rfl⟩) hLk hQ (by omega) (by omega) dX1_fail_9 (some (ad 4)) rfl (va_up (va_up (va_up v 18 4) 19 a0) 20 a1) (⟨rfl, rfl⟩) hW

set_option maxRecDepth 100000 in
set_option maxHeartbeats 4000000 in
theorem mX1_letters_ok (l : Launch) (G : pG) (ad : Nat → Nat) (x : XV) (T : va_W) (v lt0 : Nat → Int32) (wd0 : Option Nat) (a : Nat) (hk2 : v 16 = 2) (hwd : wd0 = some a) : Met l yX1_letters (ws_ yX1_letters cX1_letters 1 (some (.object "java/lang/String"))) ({ frames := 0, cells := 0, slots := 0, locals := 0 } : Room) (va_Pc [.ref (ad 2)] (fun U => pW G (HWl G ad (rdx x v lt0 wd0) ++ T) U)) (va_Qq (fun r (_ : Unit) => r = some a) (fun (u : Unit) t9 => pW G (HWl G ad (rdx x v lt0 wd0) ++ T) t9) (pA G)) 0 0 (pA G) := by
  refine mw (by decide) (Nat.le_of_ble_eq_true rfl) ?_
  intro pp ee R s m below meth c ls Q hF hRt hLk hnm hR hQ hW hl
  have hx := hF.1
  have hb := hF.2.1
  have hts := hF.2.2.2.2
  have hR1 : R.frames = 0 := by rw [hR]
  have hR2 : R.cells = 0 := by rw [hR]
  have hR3 : R.slots = 0 := by rw [hR]
  have hR4 : R.locals = 0 := by rw [hR]
  have hl : lv_has ls 1 [(0, .ref (ad 2))] := hl
  have hW : pM G (HWl G ad (rdx x v lt0 wd0) ++ T) s s.heap [] := hW
  refine lv_aload_n hx hb dX1_letters_0 rfl (lv_at hl 0 rfl) ?_
  refine gH2_token hF hW q188 (v := 2) (hk2) dX1_letters_1 ?_
  refine lv_iconst (v := 2) hx hb dX1_letters_4 (by decide) ?_
  refine lv_icmp_eq (tgt := 18) hx hb dX1_letters_5 (by decide) (fun c_5 => ?_) (fun c_5 => absurd c_5 (by decide))
  refine lv_aload_n hx hb dX1_letters_18 rfl (lv_at hl 0 rfl) ?_
  refine gH2_word hF hW q190 (v := some a) (hwd) dX1_letters_19 ?_
  exact re_q hF hRt (Or.inl ⟨_, rfl⟩) hLk hQ (by omega) (by omega) dX1_letters_22 (some a) rfl () (rfl) hW

set_option maxRecDepth 100000 in
set_option maxHeartbeats 4000000 in
theorem mX1_letters_no (l : Launch) (G : pG) (ad : Nat → Nat) (x : XV) (T : va_W) (v lt0 : Nat → Int32) (wd0 : Option Nat) (k1 a1 : Nat) (hk : v 16 = nI k1) (hk2 : k1 ≠ 2) (hk3 : k1 < 60) (ha1 : v 17 = nI a1) : vx_Met l yX1_letters (ws_ yX1_letters cX1_letters 1 (some (.object "java/lang/String"))) ({ frames := 3, cells := 0, slots := 0, locals := 65 } : Room) (va_Pc [.ref (ad 2)] (fun U => pW G (HWl G ad (rdx x v lt0 wd0) ++ T) U)) (va_Qr (fun (_ : Unit) => False) (fun (u : Unit) (ra : Nat) t9 => pW G (HWl G ad (rdx x v lt0 wd0) ++ T) t9) (pA G)) (pX G RX2 (fun (u : RS) => PX4 1 a1 u) (fun _ => ad 4) (fun u => HWl G ad (rdx x u.1 u.2.1 u.2.2.1) ++ (T ++ u.2.2.2))) 0 0 (pA G) := by
  refine mx (by decide) (Nat.le_of_ble_eq_true rfl) ?_
  intro pp ee R s m below meth c ls Q hF hRt hLk htab hR hQx hQ hW hl
  have hx := hF.1
  have hb := hF.2.1
  have hts := hF.2.2.2.2
  have hR1 : R.frames = 3 := by rw [hR]
  have hR2 : R.cells = 0 := by rw [hR]
  have hR3 : R.slots = 0 := by rw [hR]
  have hR4 : R.locals = 65 := by rw [hR]
  have hl : lv_has ls 1 [(0, .ref (ad 2))] := hl
  have hW : pM G (HWl G ad (rdx x v lt0 wd0) ++ T) s s.heap [] := hW
  refine lv_aload_n hx hb dX1_letters_0 rfl (lv_at hl 0 rfl) ?_
  refine gH2_token hF hW q188 (v := nI k1) (hk) dX1_letters_1 ?_
  refine lv_iconst (v := 2) hx hb dX1_letters_4 (by decide) ?_
  refine lv_icmp_eq (tgt := 18) hx hb dX1_letters_5 (by decide) (fun c_5 => absurd (eq_eq (b := 2) c_5) hk2) (fun c_5 => ?_)
  refine lv_aload_n hx hb dX1_letters_8 rfl (lv_at hl 0 rfl) ?_
  refine lv_iconst (v := 1) hx hb dX1_letters_9 (by decide) ?_
  refine lv_aload_n hx hb dX1_letters_10 rfl (lv_at hl 0 rfl) ?_
  refine gH2_at hF hW q189 (v := nI a1) (ha1) dX1_letters_11 ?_
  refine cl_q (ru_V (As := [.int 1, .int (nI a1)]) (rest := []) hF (mX1_fail l G ad x T v lt0 wd0 1 (nI a1)) (cwV 2 hts (lw_V q583 q585 qs13 q60 q586) rfl rfl rfl (by decide +kernel) ⟨lb hR1 rfl, lb hR4 rfl⟩) hW (List.mem_of_getElem? (i := 2) rfl) (ci := 1) rfl rfl rfl hl.1 rfl (lv_room (Nat.le_of_ble_eq_true rfl)) dX1_letters_14 ⟨by omega, by omega⟩) hW (fun r_1 u_2 H locs h_3 hW => ?_)
  obtain ⟨rfl, rfl⟩ : r_1 = some (ad 4) ∧ u_2 = (va_up (va_up (va_up v 18 4) 19 1) 20 (nI a1)) := h_3
  have hW : pM G (HWl G ad (rdx x (va_up (va_up (va_up v 18 4) 19 1) 20 (nI a1)) lt0 wd0) ++ T) s _ _ := hW
  refine lv_eqv (y := .ref (ad 4)) rfl ?_
  refine vx_athrow hx hb dX1_letters_17 ?_
  exact ox htab hLk hQx (by omega) (by omega) ((va_up (va_up (va_up v 18 4) 19 1) 20 (nI a1)), lt0, wd0, []) (⟨rfl, rfl, rfl⟩) (by rw [List.append_nil]; exact hW) (List.mem_of_getElem? (i := 4) rfl) (ci := 2) rfl

set_option maxRecDepth 100000 in
set_option maxHeartbeats 4000000 in
theorem mX0_wordOf (l : Launch) (G : pG) (ad : Nat → Nat) (x : XV) (T : va_W) (wds : List (List Nat)) (nm : List Nat) (sa : Nat) (hw : Wrep G T (x.2.2.1 0) wds) (hs : HS G T sa nm) (hnw : wds.length ≤ 60) (h1 : x.1 1 = nI wds.length) : Met l yX0_wordOf (ws_ yX0_wordOf cX0_wordOf 3 (some .int)) ({ frames := 2, cells := 0, slots := 0, locals := 44 } : Room) (va_Pc [.ref (ad 0), .ref sa] (fun U => pW G (HWl G ad x ++ T) U)) (va_Qi (fun r (_ : Unit) => (∃ k, k < wds.length ∧ wds.getD k [] = nm ∧ r = nI k) ∨ ((∀ k, k < wds.length → wds.getD k [] ≠ nm) ∧ r = -1)) (fun (u : Unit) t9 => pW G (HWl G ad x ++ T) t9) (pA G)) 0 0 (pA G) := by
  refine mw (by decide) (Nat.le_of_ble_eq_true rfl) ?_
  intro pp ee R s m below meth c ls Q hF hRt hLk hnm hR hQ hW hl
  have hx := hF.1
  have hb := hF.2.1
  have hts := hF.2.2.2.2
  have hR1 : R.frames = 2 := by rw [hR]
  have hR2 : R.cells = 0 := by rw [hR]
  have hR3 : R.slots = 0 := by rw [hR]
  have hR4 : R.locals = 44 := by rw [hR]
  have hl : lv_has ls 3 [(0, .ref (ad 0)), (1, .ref sa)] := hl
  have hW : pM G (HWl G ad x ++ T) s s.heap [] := hW
  refine lv_aload_n hx hb dX0_wordOf_0 rfl (lv_at hl 0 rfl) ?_
  refine gH0_wordMany hF hW q270 (v := nI wds.length) (h1) dX0_wordOf_1 ?_
  refine lv_iconst (v := 1) hx hb dX0_wordOf_4 (by decide) ?_
  refine lv_isub hx hb dX0_wordOf_5 ?_
  refine lv_istore_n (lv' := [(2, .int ((nI wds.length) - 1)), (0, .ref (ad 0)), (1, .ref sa)]) hx hb dX0_wordOf_6 rfl hl (by decide) rfl (fun ls hl => ?_)
  have loop_7 : ∀ (nn : Nat) (i : Nat) (H : Heap) (locs : List Loc) (ls : Array Slot), i < nn → (i ≤ wds.length) → (∀ j, i ≤ j → j < wds.length → wds.getD j [] ≠ nm) → pM G (HWl G ad x ++ T) s H locs → lv_has ls 3 [(0, .ref (ad 0)), (1, .ref sa), (2, .int (nI i - 1))] → W pp l ee R s m ([.ref (ad 0), .ref sa] : List Value).toArray below meth c H locs 0 0 Q (F0 m 7 ls []) := by
    intro nn
    induction nn with
    | zero => intro i H locs ls hm; exact absurd hm (Nat.not_lt_zero _)
    | succ nn ih =>
      intro i H locs ls hm hi hg hW hl
      cases i with
      | zero =>
        rw [show nI 0 - 1 = (-1 : Int32) by decide] at hl
        refine lv_iload_n hx hb dX0_wordOf_7 rfl (lv_at hl 2 rfl) ?_
        refine lv_if_lt (tgt := 30) hx hb dX0_wordOf_8 (by decide) (fun c_8 => ?_) (fun c_8 => absurd c_8 (by decide))
        refine lv_iload_n hx hb dX0_wordOf_30 rfl (lv_at hl 2 rfl) ?_
        exact re_i hF hRt hLk hQ (by omega) (by omega) dX0_wordOf_31 () (Or.inr ⟨fun k hk => hg k (Nat.zero_le _) hk, rfl⟩) hW
      | succ i =>
        rw [nI_pred] at hl
        obtain ⟨sk, hk1, hk2⟩ := hw i (by omega)
        have hk3 := hk2
        obtain ⟨bk, fk, hk4, hk5, hk6, hk7⟩ := hk3
        refine lv_iload_n hx hb dX0_wordOf_7 rfl (lv_at hl 2 rfl) ?_
        refine lv_if_lt (tgt := 30) hx hb dX0_wordOf_8 (by decide) (fun c_8 => absurd c_8 (nI_pos (by omega))) (fun c_8 => ?_)
        refine lv_aload_n hx hb dX0_wordOf_11 rfl (lv_at hl 0 rfl) ?_
        refine gH0_words hF hW q263 dX0_wordOf_12 ?_
        refine lv_iload_n hx hb dX0_wordOf_15 rfl (lv_at hl 2 rfl) ?_
        refine lH8 hF hW (j := i) (rfl) (by omega) (r := sk) (hk1) dX0_wordOf_16 ?_
        refine lv_aload_n hx hb dX0_wordOf_17 rfl (lv_at hl 1 rfl) ?_
        refine cl_i (ru_V (As := [.ref sa]) (rest := []) hF (mJ3_equals l G (HWl G ad x ++ T) sk sa (wds.getD i []) nm (hk2.mono (fun q h => (ms_r h))) (hs.mono (fun q h => (ms_r h)))) (cwV 1 hts (lw_V q474 q475 q476 q69 q477) rfl rfl rfl (by decide +kernel) ⟨lb hR1 rfl, lb hR4 rfl⟩) hW (ms_r hk4) (ci := 19) rfl rfl rfl hl.1 rfl (lv_room (Nat.le_of_ble_eq_true rfl)) dX0_wordOf_18 ⟨by omega, by omega⟩) hW (fun r_1 u_2 H locs h_3 hW => ?_)
        have hW : pM G (HWl G ad x ++ T) s _ _ := hW
        rcases h_3 with ⟨rfl, b_18⟩ | ⟨rfl, b_18⟩
        · refine lv_if_ne (tgt := 30) hx hb dX0_wordOf_21 (by decide) (fun c_21 => ?_) (fun c_21 => absurd c_21 (by decide))
          refine lv_iload_n hx hb dX0_wordOf_30 rfl (lv_at hl 2 rfl) ?_
          exact re_i hF hRt hLk hQ (by omega) (by omega) dX0_wordOf_31 () (Or.inl ⟨i, by omega, b_18, rfl⟩) hW
        · refine lv_if_ne (tgt := 30) hx hb dX0_wordOf_21 (by decide) (fun c_21 => absurd c_21 (by decide)) (fun c_21 => ?_)
          refine lv_iinc (v := nI i - 1) (lv' := [(2, .int (nI i - 1)), (0, .ref (ad 0)), (1, .ref sa)]) hx hb dX0_wordOf_24 hl (k := 2) rfl (by rw [Int32.sub_eq_add_neg]; rfl) (by decide) rfl (fun ls hl => ?_)
          refine lv_goto (tgt := 7) hx hb dX0_wordOf_27 (by decide) ?_
          exact W.widen (by omega) (by omega) (ih i H locs ls (by omega) (by omega) (fun j h1 h2 => if h : j = i then h ▸ b_18 else hg j (by omega) h2) hW (lv_sub hl [1, 2, 0] rfl))
  exact loop_7 _ wds.length _ _ _ (Nat.lt_succ_self _) (Nat.le_refl _) (fun j h1 h2 => absurd h1 (by omega)) hW (lv_sub hl [1, 2, 0] rfl)

set_option maxRecDepth 100000 in
set_option maxHeartbeats 4000000 in
theorem mX1_begin (l : Launch) (G : pG) (ad : Nat → Nat) (x : XV) (T : va_W) (v lt0 : Nat → Int32) (wd0 : Option Nat) (n : Nat) (hn : n ≤ 300) : Met l yX1_begin (ws_ yX1_begin cX1_begin 2 none) ({ frames := 5, cells := 2, slots := 14, locals := 121 } : Room) (va_Pc [.ref (ad 2), .int (nI n)] (fun U => pW G (HWl G ad (rdx x v lt0 wd0) ++ T) U)) (va_Qv (fun (u : RS) => u.1 14 = nI n ∧ u.1 15 = nI (tkE (x.2.1 0) n 0) ∧ u.1 16 = nI (tkK (x.2.1 0) n 0) ∧ u.1 17 = nI (skA (x.2.1 0) n 0) ∧ (tkK (x.2.1 0) n 0 = 2 → ∃ a, u.2.2.1 = some a ∧ HS G u.2.2.2 a (tkW (x.2.1 0) n 0))) (fun (u : RS) t9 => pW G (HWl G ad (rdx x u.1 u.2.1 u.2.2.1) ++ (T ++ u.2.2.2)) t9) (pA G)) 2 14 (pA G) := by
  refine mw (by decide) (Nat.le_of_ble_eq_true rfl) ?_
  intro pp ee R s m below meth c ls Q hF hRt hLk hnm hR hQ hW hl
  have hx := hF.1
  have hb := hF.2.1
  have hts := hF.2.2.2.2
  have hR1 : R.frames = 5 := by rw [hR]
  have hR2 : R.cells = 2 := by rw [hR]
  have hR3 : R.slots = 14 := by rw [hR]
  have hR4 : R.locals = 121 := by rw [hR]
  have hl : lv_has ls 2 [(0, .ref (ad 2)), (1, .int (nI n))] := hl
  have hW : pM G (HWl G ad (rdx x v lt0 wd0) ++ T) s s.heap [] := hW
  refine lv_aload_n hx hb dX1_begin_0 rfl (lv_at hl 0 rfl) ?_
  refine lv_iload_n hx hb dX1_begin_1 rfl (lv_at hl 1 rfl) ?_
  refine pH2_size hF hW q186 dX1_begin_2 (fun H locs hW => ?_)
  have hW : pM G (HWl G ad (xi (rdx x v lt0 wd0) 14 (nI n)) ++ T) s _ _ := hW
  refine lv_aload_n hx hb dX1_begin_5 rfl (lv_at hl 0 rfl) ?_
  refine lv_iconst (v := 0) hx hb dX1_begin_6 (by decide) ?_
  refine pH2_end hF hW q187 dX1_begin_7 (fun H locs hW => ?_)
  have hW : pM G (HWl G ad (xi (xi (rdx x v lt0 wd0) 14 (nI n)) 15 0) ++ T) s _ _ := hW
  refine lv_aload_n hx hb dX1_begin_10 rfl (lv_at hl 0 rfl) ?_
  have hW : pM G (HWl G ad (rdx x (va_up (va_up v 14 (nI n)) 15 0) lt0 wd0) ++ T) s _ _ := hW
  refine cl_v (ru_V (As := []) (rest := []) hF (mX1_next l G ad x T (va_up (va_up v 14 (nI n)) 15 0) lt0 wd0 0 n hn rfl rfl (Nat.zero_le _)) (cwV 0 hts (lw_V q382 q384 qs5 q60 q385) rfl rfl rfl (by decide +kernel) ⟨lb hR1 rfl, lb hR4 rfl⟩) hW (List.mem_of_getElem? (i := 2) rfl) (ci := 1) rfl rfl rfl hl.1 rfl (lv_room (Nat.le_of_ble_eq_true rfl)) dX1_begin_11 ⟨by omega, by omega⟩) hW (fun u_ H locs h_ hW => ?_)
  obtain ⟨v1, lt1, wd1, N1⟩ := u_
  obtain ⟨t_14, t_15, t_16, t_17, t_w⟩ := h_
  have hW : pM G (HWl G ad (rdx x v1 lt1 wd1) ++ (T ++ N1)) s _ _ := hW
  exact re_v hF hRt hLk hQ (by omega) (by omega) dX1_begin_14 (v1, lt1, wd1, N1) (⟨t_14, t_15, t_16, t_17, t_w⟩) hW

set_option maxRecDepth 100000 in
set_option maxHeartbeats 4000000 in
theorem mX1_wordOf_no1 (l : Launch) (G : pG) (ad : Nat → Nat) (x : XV) (T : va_W) (v lt0 : Nat → Int32) (wd0 : Option Nat) (k1 a1 : Nat) (hk : v 16 = nI k1) (hk2 : k1 ≠ 2) (hk3 : k1 < 60) (ha1 : v 17 = nI a1) : vx_Met l yX1_wordOf (ws_ yX1_wordOf cX1_wordOf 3 (some .int)) ({ frames := 4, cells := 0, slots := 0, locals := 85 } : Room) (va_Pc [.ref (ad 2), .ref (ad 0)] (fun U => pW G (HWl G ad (rdx x v lt0 wd0) ++ T) U)) (va_Qi (fun _ (_ : Unit) => False) (fun (u : Unit) t9 => pW G (HWl G ad (rdx x v lt0 wd0) ++ T) t9) (pA G)) (pX G RX2 (fun (u : RS) => PX4 1 a1 u) (fun _ => ad 4) (fun u => HWl G ad (rdx x u.1 u.2.1 u.2.2.1) ++ (T ++ u.2.2.2))) 0 0 (pA G) := by
  refine mx (by decide) (Nat.le_of_ble_eq_true rfl) ?_
  intro pp ee R s m below meth c ls Q hF hRt hLk htab hR hQx hQ hW hl
  have hx := hF.1
  have hb := hF.2.1
  have hts := hF.2.2.2.2
  have hR1 : R.frames = 4 := by rw [hR]
  have hR2 : R.cells = 0 := by rw [hR]
  have hR3 : R.slots = 0 := by rw [hR]
  have hR4 : R.locals = 85 := by rw [hR]
  have hl : lv_has ls 3 [(0, .ref (ad 2)), (1, .ref (ad 0))] := hl
  have hW : pM G (HWl G ad (rdx x v lt0 wd0) ++ T) s s.heap [] := hW
  refine lv_aload_n hx hb dX1_wordOf_0 rfl (lv_at hl 1 rfl) ?_
  refine lv_aload_n hx hb dX1_wordOf_1 rfl (lv_at hl 0 rfl) ?_
  refine cx_r (rx_V (As := []) (rest := [.ref (ad 0)]) hF (mX1_letters_no l G ad x T v lt0 wd0 k1 a1 hk hk2 hk3 ha1) (cwV 0 hts (lw_V q579 q581 qs12 q60 q582) rfl rfl rfl (by decide +kernel) ⟨lb hR1 rfl, lb hR4 rfl⟩) hW (List.mem_of_getElem? (i := 2) rfl) (ci := 1) rfl rfl rfl hl.1 rfl (lv_room (Nat.le_of_ble_eq_true rfl)) dX1_wordOf_2 ⟨by omega, by omega⟩) hW (fun u_2 H locs h_3 hW => ?_) (fun u_2 r_1 H locs h_3 hW => ?_)
  · exact ox htab hLk hQx (by omega) (by omega) u_2 (h_3) hW (List.mem_of_getElem? (i := 4) rfl) (ci := 2) rfl
  · exact h_3.elim

set_option maxRecDepth 100000 in
set_option maxHeartbeats 4000000 in
theorem mX1_wordOf_no2 (l : Launch) (G : pG) (ad : Nat → Nat) (x : XV) (T : va_W) (v lt0 : Nat → Int32) (wd0 : Option Nat) (a a1 : Nat) (nm : List Nat) (hk2 : v 16 = 2) (hwd : wd0 = some a) (hs : HS G T a nm) (ha1 : v 17 = nI a1) (wds : List (List Nat)) (hw : Wrep G T (x.2.2.1 0) wds) (hnw : wds.length ≤ 60) (h1 : x.1 1 = nI wds.length) (hno : pix wds nm = none) (hnd : wds.Nodup) : vx_Met l yX1_wordOf (ws_ yX1_wordOf cX1_wordOf 3 (some .int)) ({ frames := 3, cells := 0, slots := 0, locals := 66 } : Room) (va_Pc [.ref (ad 2), .ref (ad 0)] (fun U => pW G (HWl G ad (rdx x v lt0 wd0) ++ T) U)) (va_Qi (fun _ (_ : Unit) => False) (fun (u : Unit) t9 => pW G (HWl G ad (rdx x v lt0 wd0) ++ T) t9) (pA G)) (pX G RX2 (fun (u : RS) => PX4 2 a1 u) (fun _ => ad 4) (fun u => HWl G ad (rdx x u.1 u.2.1 u.2.2.1) ++ (T ++ u.2.2.2))) 0 0 (pA G) := by
  refine mx (by decide) (Nat.le_of_ble_eq_true rfl) ?_
  intro pp ee R s m below meth c ls Q hF hRt hLk htab hR hQx hQ hW hl
  have hx := hF.1
  have hb := hF.2.1
  have hts := hF.2.2.2.2
  have hR1 : R.frames = 3 := by rw [hR]
  have hR2 : R.cells = 0 := by rw [hR]
  have hR3 : R.slots = 0 := by rw [hR]
  have hR4 : R.locals = 66 := by rw [hR]
  have hl : lv_has ls 3 [(0, .ref (ad 2)), (1, .ref (ad 0))] := hl
  have hW : pM G (HWl G ad (rdx x v lt0 wd0) ++ T) s s.heap [] := hW
  refine lv_aload_n hx hb dX1_wordOf_0 rfl (lv_at hl 1 rfl) ?_
  refine lv_aload_n hx hb dX1_wordOf_1 rfl (lv_at hl 0 rfl) ?_
  refine cl_q (ru_V (As := []) (rest := [.ref (ad 0)]) hF (mX1_letters_ok l G ad x T v lt0 wd0 a hk2 hwd ) (cwV 0 hts (lw_V q579 q581 qs12 q60 q582) rfl rfl rfl (by decide +kernel) ⟨lb hR1 rfl, lb hR4 rfl⟩) hW (List.mem_of_getElem? (i := 2) rfl) (ci := 1) rfl rfl rfl hl.1 rfl (lv_room (Nat.le_of_ble_eq_true rfl)) dX1_wordOf_2 ⟨by omega, by omega⟩) hW (fun r_1 u_2 H locs h_3 hW => ?_)
  obtain rfl : r_1 = some a := h_3
  have hW : pM G (HWl G ad (rdx x v lt0 wd0) ++ T) s _ _ := hW
  refine lv_eqv (y := .ref a) rfl ?_
  refine cl_i (ru_VN (As := [.ref a]) (rest := []) hF (mX0_wordOf l G ad (rdx x v lt0 wd0) T wds nm a hw hs hnw h1) ⟨va_cnB 1 hts (lw_meth q473) rfl rfl rfl (hW.2.2.2.2.2.1 _ (List.mem_of_getElem? (i := 17) rfl)) (hts _ q59) (by decide +kernel) ⟨lb hR1 rfl, lb hR4 rfl⟩, hts _ q472, hts _ qs7⟩ hW (List.mem_of_getElem? (i := 0) rfl) (ci := 0) rfl rfl rfl hl.1 rfl (lv_room (Nat.le_of_ble_eq_true rfl)) dX1_wordOf_5 ⟨by omega, by omega⟩) hW (fun r_4 u_5 H locs h_6 hW => ?_)
  have hW : pM G (HWl G ad (rdx x v lt0 wd0) ++ T) s _ _ := hW
  have r_42 : r_4 = -1 := pix_r1 hnd hno h_6
  subst r_42
  refine lv_istore_n (lv' := [(2, .int (-1)), (0, .ref (ad 2)), (1, .ref (ad 0))]) hx hb dX1_wordOf_8 rfl hl (by decide) rfl (fun ls hl => ?_)
  refine lv_iload_n hx hb dX1_wordOf_9 rfl (lv_at hl 0 rfl) ?_
  refine lv_iconst (v := (-1)) hx hb dX1_wordOf_10 (by decide) ?_
  refine lv_icmp_ne (tgt := 24) hx hb dX1_wordOf_11 (by decide) (fun c_11 => absurd c_11 (by decide)) (fun c_11 => ?_)
  refine lv_aload_n hx hb dX1_wordOf_14 rfl (lv_at hl 1 rfl) ?_
  refine lv_iconst (v := 2) hx hb dX1_wordOf_15 (by decide) ?_
  refine lv_aload_n hx hb dX1_wordOf_16 rfl (lv_at hl 1 rfl) ?_
  refine gH2_at hF hW q189 (v := nI a1) (ha1) dX1_wordOf_17 ?_
  refine cl_q (ru_V (As := [.int 2, .int (nI a1)]) (rest := []) hF (mX1_fail l G ad x T v lt0 wd0 2 (nI a1)) (cwV 2 hts (lw_V q583 q585 qs13 q60 q586) rfl rfl rfl (by decide +kernel) ⟨lb hR1 rfl, lb hR4 rfl⟩) hW (List.mem_of_getElem? (i := 2) rfl) (ci := 1) rfl rfl rfl hl.1 rfl (lv_room (Nat.le_of_ble_eq_true rfl)) dX1_wordOf_20 ⟨by omega, by omega⟩) hW (fun r_7 u_8 H locs h_9 hW => ?_)
  obtain ⟨rfl, rfl⟩ : r_7 = some (ad 4) ∧ u_8 = (va_up (va_up (va_up v 18 4) 19 2) 20 (nI a1)) := h_9
  have hW : pM G (HWl G ad (rdx x (va_up (va_up (va_up v 18 4) 19 2) 20 (nI a1)) lt0 wd0) ++ T) s _ _ := hW
  refine lv_eqv (y := .ref (ad 4)) rfl ?_
  refine vx_athrow hx hb dX1_wordOf_23 ?_
  exact ox htab hLk hQx (by omega) (by omega) ((va_up (va_up (va_up v 18 4) 19 2) 20 (nI a1)), lt0, wd0, []) (⟨rfl, rfl, rfl⟩) (by rw [List.append_nil]; exact hW) (List.mem_of_getElem? (i := 4) rfl) (ci := 2) rfl

set_option maxRecDepth 100000 in
set_option maxHeartbeats 4000000 in
theorem mX1_wordOf_ok (l : Launch) (G : pG) (ad : Nat → Nat) (x : XV) (T : va_W) (v lt0 : Nat → Int32) (wd0 : Option Nat) (a e0 n k : Nat) (nm : List Nat) (hk2 : v 16 = 2) (hwd : wd0 = some a) (hs : HS G T a nm) (hn : n ≤ 300) (hsz : v 14 = nI n) (he : v 15 = nI e0) (hen : e0 ≤ n) (wds : List (List Nat)) (hw : Wrep G T (x.2.2.1 0) wds) (hnw : wds.length ≤ 60) (h1 : x.1 1 = nI wds.length) (hno : pix wds nm = some k) (hnd : wds.Nodup) : Met l yX1_wordOf (ws_ yX1_wordOf cX1_wordOf 3 (some .int)) ({ frames := 5, cells := 2, slots := 14, locals := 121 } : Room) (va_Pc [.ref (ad 2), .ref (ad 0)] (fun U => pW G (HWl G ad (rdx x v lt0 wd0) ++ T) U)) (va_Qi (fun r (u : RS) => r = nI k ∧ u.1 14 = nI n ∧ u.1 15 = nI (tkE (x.2.1 0) n e0) ∧ u.1 16 = nI (tkK (x.2.1 0) n e0) ∧ u.1 17 = nI (skA (x.2.1 0) n e0) ∧ (tkK (x.2.1 0) n e0 = 2 → ∃ a, u.2.2.1 = some a ∧ HS G u.2.2.2 a (tkW (x.2.1 0) n e0))) (fun (u : RS) t9 => pW G (HWl G ad (rdx x u.1 u.2.1 u.2.2.1) ++ (T ++ u.2.2.2)) t9) (pA G)) 2 14 (pA G) := by
  refine mw (by decide) (Nat.le_of_ble_eq_true rfl) ?_
  intro pp ee R s m below meth c ls Q hF hRt hLk hnm hR hQ hW hl
  have hx := hF.1
  have hb := hF.2.1
  have hts := hF.2.2.2.2
  have hR1 : R.frames = 5 := by rw [hR]
  have hR2 : R.cells = 2 := by rw [hR]
  have hR3 : R.slots = 14 := by rw [hR]
  have hR4 : R.locals = 121 := by rw [hR]
  have hl : lv_has ls 3 [(0, .ref (ad 2)), (1, .ref (ad 0))] := hl
  have hW : pM G (HWl G ad (rdx x v lt0 wd0) ++ T) s s.heap [] := hW
  refine lv_aload_n hx hb dX1_wordOf_0 rfl (lv_at hl 1 rfl) ?_
  refine lv_aload_n hx hb dX1_wordOf_1 rfl (lv_at hl 0 rfl) ?_
  refine cl_q (ru_V (As := []) (rest := [.ref (ad 0)]) hF (mX1_letters_ok l G ad x T v lt0 wd0 a hk2 hwd ) (cwV 0 hts (lw_V q579 q581 qs12 q60 q582) rfl rfl rfl (by decide +kernel) ⟨lb hR1 rfl, lb hR4 rfl⟩) hW (List.mem_of_getElem? (i := 2) rfl) (ci := 1) rfl rfl rfl hl.1 rfl (lv_room (Nat.le_of_ble_eq_true rfl)) dX1_wordOf_2 ⟨by omega, by omega⟩) hW (fun r_1 u_2 H locs h_3 hW => ?_)
  obtain rfl : r_1 = some a := h_3
  have hW : pM G (HWl G ad (rdx x v lt0 wd0) ++ T) s _ _ := hW
  refine lv_eqv (y := .ref a) rfl ?_
  refine cl_i (ru_VN (As := [.ref a]) (rest := []) hF (mX0_wordOf l G ad (rdx x v lt0 wd0) T wds nm a hw hs hnw h1) ⟨va_cnB 1 hts (lw_meth q473) rfl rfl rfl (hW.2.2.2.2.2.1 _ (List.mem_of_getElem? (i := 17) rfl)) (hts _ q59) (by decide +kernel) ⟨lb hR1 rfl, lb hR4 rfl⟩, hts _ q472, hts _ qs7⟩ hW (List.mem_of_getElem? (i := 0) rfl) (ci := 0) rfl rfl rfl hl.1 rfl (lv_room (Nat.le_of_ble_eq_true rfl)) dX1_wordOf_5 ⟨by omega, by omega⟩) hW (fun r_4 u_5 H locs h_6 hW => ?_)
  have hW : pM G (HWl G ad (rdx x v lt0 wd0) ++ T) s _ _ := hW
  have r_42 : r_4 = nI k := pix_r2 hnd hno h_6
  subst r_42
  refine lv_istore_n (lv' := [(2, .int (nI k)), (0, .ref (ad 2)), (1, .ref (ad 0))]) hx hb dX1_wordOf_8 rfl hl (by decide) rfl (fun ls hl => ?_)
  refine lv_iload_n hx hb dX1_wordOf_9 rfl (lv_at hl 0 rfl) ?_
  refine lv_iconst (v := (-1)) hx hb dX1_wordOf_10 (by decide) ?_
  refine lv_icmp_ne (tgt := 24) hx hb dX1_wordOf_11 (by decide) (fun c_11 => ?_) (fun c_11 => absurd c_11 (nI_ne_m1 (by have := (pix_some hno).1; omega)))
  refine lv_aload_n hx hb dX1_wordOf_24 rfl (lv_at hl 1 rfl) ?_
  refine cl_v (ru_V (As := []) (rest := []) hF (mX1_next l G ad x T v lt0 wd0 e0 n hn hsz he hen) (cwV 0 hts (lw_V q382 q384 qs5 q60 q385) rfl rfl rfl (by decide +kernel) ⟨lb hR1 rfl, lb hR4 rfl⟩) hW (List.mem_of_getElem? (i := 2) rfl) (ci := 1) rfl rfl rfl hl.1 rfl (lv_room (Nat.le_of_ble_eq_true rfl)) dX1_wordOf_25 ⟨by omega, by omega⟩) hW (fun u_ H locs h_ hW => ?_)
  obtain ⟨v1, lt1, wd1, N1⟩ := u_
  obtain ⟨t_14, t_15, t_16, t_17, t_w⟩ := h_
  have hW : pM G (HWl G ad (rdx x v1 lt1 wd1) ++ (T ++ N1)) s _ _ := hW
  refine lv_iload_n hx hb dX1_wordOf_28 rfl (lv_at hl 0 rfl) ?_
  exact re_i hF hRt hLk hQ (by omega) (by omega) dX1_wordOf_29 (v1, lt1, wd1, N1) (⟨rfl, t_14, t_15, t_16, t_17, t_w⟩) hW
