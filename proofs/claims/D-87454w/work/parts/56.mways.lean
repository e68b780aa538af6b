/-! the model's ways -/
/-- the model's own of the ways changed -/
def mfx (x : XV) (w : Int32) (go fi : Nat → Int32) : XV := xa (xa (xi x 17 w) 14 go) 15 fi
abbrev MF : Type := Int32 × (Nat → Int32) × (Nat → Int32)
theorem my_cut {w p n L : Nat} {fi fi1 go1 : Nat → Int32} {A : List (Option Nat)} {S : List (List (Option Nat))} {f : Nat → List (List (Option Nat))} (eqS : S = (List.range n).flatMap f) (hr : ∃ r, (List.range n).flatMap f = (List.range p).flatMap f ++ r) (hgt : 0 < wC true w ((List.range p).flatMap f).length) (h2 : ∀ j, j < A.length → go1 j = enc (A.getD j none)) (h3 : ∀ j, j < L → fi1 j = fiF w fi ((List.range p).flatMap f) j) :
    ((nI (wC true w ((List.range p).flatMap f).length), go1, fi1) : MF).1 = nI (wC true w S.length) ∧ (∀ j, j < A.length → ((nI (wC true w ((List.range p).flatMap f).length), go1, fi1) : MF).2.1 j = enc (A.getD j none)) ∧ (∀ j, j < L → ((nI (wC true w ((List.range p).flatMap f).length), go1, fi1) : MF).2.2 j = fiF w fi S j) := by
  obtain ⟨r, hr⟩ := hr
  refine ⟨?_, h2, fun j hj => ?_⟩
  · rw [eqS, hr, List.length_append, ← wC_add]
    show nI _ = nI (wC true _ _)
    generalize wC true w ((List.range p).flatMap f).length = v at hgt ⊢
    unfold wC
    rw [if_pos rfl, if_neg (by omega)]
  · rw [eqS, hr, ← fiF_app (one := true) (h3 j hj)]
    unfold fiF
    rw [if_neg (by omega)]
theorem my_end {one : Bool} {w p n L : Nat} {fi fi1 go1 : Nat → Int32} {A : List (Option Nat)} {S : List (List (Option Nat))} {f : Nat → List (List (Option Nat))} (eqS : S = (List.range n).flatMap f) (hp : p = n) (h2 : ∀ j, j < A.length → go1 j = enc (A.getD j none)) (h3 : ∀ j, j < L → fi1 j = fiF w fi ((List.range p).flatMap f) j) :
    ((nI (wC one w ((List.range p).flatMap f).length), go1, fi1) : MF).1 = nI (wC one w S.length) ∧ (∀ j, j < A.length → ((nI (wC one w ((List.range p).flatMap f).length), go1, fi1) : MF).2.1 j = enc (A.getD j none)) ∧ (∀ j, j < L → ((nI (wC one w ((List.range p).flatMap f).length), go1, fi1) : MF).2.2 j = fiF w fi S j) := by
  subst hp
  rw [eqS]
  exact ⟨rfl, h2, h3⟩
theorem all_bit {n i : Nat} (h : i < n) : (2 ^ n - 1).testBit i = true := by
  rw [Nat.testBit_two_pow_sub_one]; exact decide_eq_true h

set_option maxRecDepth 100000 in
set_option maxHeartbeats 4000000 in
theorem mX4_put0_true (l : Launch) (G : pG) (ad : Nat → Nat) (x : XV) (T : va_W) (pa pb : Nat) (a b : Tx) (ha9 : MU G T pa a) (hb9 : MU G T pb b) (nW : Nat) (hwd : WdOk (x.2.1 0) nW) (hW60 : nW ≤ 60) (hoka : TxOk nW 8 10 a) (hokb : TxOk nW 8 10 b) (A : List (Option Nat)) (w : Nat) (go fi : Nat → Int32) (g0 : A.length + 0 = a.1.length) (g1 : ∀ i, i < A.length → go i = enc (A.getD i none)) (g2 : ∀ i p, A.getD i none = some p → p < 8) (g3 : true = true → w = 0) (g4 : w + (solsF (x.2.1 0) a b (2 ^ a.1.length - 1) 0 A).length < 2147483647) (g5 : AllS A) : Met l yX4_put (ws_ yX4_put cX4_put 7 none) (rmG 0) (va_Pc [.ref (ad 0), .ref pa, .ref pb, .int (nI A.length), .int (nI (mskA A)), .int 1] (fun U => pW G (MWl G ad (mfx x (nI w) go fi) ++ T) U)) (va_Qv (fun (u : MF) => u.1 = nI (wC true w (solsF (x.2.1 0) a b (2 ^ a.1.length - 1) 0 A).length) ∧ (∀ j, j < A.length → u.2.1 j = enc (A.getD j none)) ∧ (∀ j, j < a.1.length → u.2.2 j = fiF w fi (solsF (x.2.1 0) a b (2 ^ a.1.length - 1) 0 A) j)) (fun (u : MF) t9 => pW G (MWl G ad (mfx x u.1 u.2.1 u.2.2) ++ T) t9) (pA G)) 0 0 (pA G) := by
  refine mw (by decide) (Nat.le_of_ble_eq_true rfl) ?_
  intro pp ee R s m below meth c ls Q hF hRt hLk hnm hR hQ hW hl
  have hx := hF.1
  have hb := hF.2.1
  have hts := hF.2.2.2.2
  have hR1 : R.frames = 5 := by subst hR; rfl
  have hR2 : R.cells = 0 := by subst hR; rfl
  have hR3 : R.slots = 0 := by subst hR; rfl
  have hR4 : R.locals = 200 := by subst hR; rfl
  have hl : lv_has ls 7 [(0, .ref (ad 0)), (1, .ref pa), (2, .ref pb), (3, .int (nI A.length)), (4, .int (nI (mskA A))), (5, .int 1)] := hl
  have hW : pM G (MWl G ad (mfx x (nI w) go fi) ++ T) s s.heap [] := hW
  obtain ⟨ana, awa, afa, ava, ata, nfa, wfa, ffa, vfa, tfa, ha1, ha2, ha3, ha4, ha5, ha6, ha7⟩ := ha9
  have e0 : A.length = a.1.length := g0
  have ha8 := hoka.2.2.1
  have g4 : w + 1 < 2147483647 := g4
  refine lv_iload_n hx hb dX4_put_0 rfl (lv_at hl 3 rfl) ?_
  refine lv_aload_n hx hb dX4_put_1 rfl (lv_at hl 1 rfl) ?_
  refine gtN hF hW (ms_r ha1) (ci := 22) rfl in_X6 0 (by decide) (List.mem_of_getElem? (i := 7) rfl) rfl (v := .int (nI a.1.length)) rfl dX4_put_2 ?_
  refine lv_icmp_ne (tgt := 58) hx hb dX4_put_5 (by decide) (fun c_5 => absurd (show nI A.length = nI a.1.length by rw [e0]) c_5) (fun c_5 => ?_)
  refine lv_aload_n hx hb dX4_put_8 rfl (lv_at hl 0 rfl) ?_
  refine gM0_ways hF hW q1136 (v := nI w) (rfl) dX4_put_9 ?_
  refine lv_if_ne (tgt := 47) hx hb dX4_put_12 (by decide) (fun c_12 => ?_) (fun c_12 => ?_)
  · have hw0 : ¬ w = 0 := fun z => c_12 (by rw [z]; rfl)
    refine lv_aload_n hx hb dX4_put_47 rfl (lv_at hl 0 rfl) ?_
    refine lv_dup hx hb dX4_put_48 rfl ?_
    refine gM0_ways hF hW q1136 (v := nI w) (rfl) dX4_put_49 ?_
    refine lv_iconst (v := 1) hx hb dX4_put_52 (by decide) ?_
    refine lv_iadd hx hb dX4_put_53 ?_
    refine lv_eqi (show (nI w) + 1 = nI (w + 1) from nI_add w 1) ?_
    refine pM0_ways hF hW q1136 dX4_put_54 (fun H locs hW => ?_)
    have hW : pM G (MWl G ad (xi (mfx x (nI w) go fi) 17 (nI (w + 1))) ++ T) s _ _ := hW
    exact re_v hF hRt hLk hQ (by omega) (by omega) dX4_put_57 (nI (w + 1), go, fi) (⟨by show nI (w + 1) = nI (wC true w 1); unfold wC; simp; have := g3 rfl; rw [this]; rfl, g1, fun j hj => by show fi j = fiF w fi [A] j; unfold fiF; rw [if_neg hw0]⟩) hW
  · have hw0 : w = 0 := eq_eq (b := 0) c_12
    refine lv_iconst (v := 0) hx hb dX4_put_15 (by decide) ?_
    refine lv_istore (lv' := [(6, .int 0), (0, .ref (ad 0)), (1, .ref pa), (2, .ref pb), (3, .int (nI A.length)), (4, .int (nI (mskA A))), (5, .int 1)]) hx hb dX4_put_16 hl (by decide) rfl (fun ls hl => ?_)
    have loop_18 : ∀ (nn : Nat) (k : Nat) (f9 : Nat → Int32) (H : Heap) (locs : List Loc) (ls : Array Slot), a.1.length - k < nn → (k ≤ a.1.length) → (∀ j, j < k → f9 j = go j) → pM G (MWl G ad (mfx x (nI w) go f9) ++ T) s H locs → lv_has ls 7 [(0, .ref (ad 0)), (1, .ref pa), (2, .ref pb), (3, .int (nI A.length)), (4, .int (nI (mskA A))), (5, .int 1), (6, .int (nI k))] → W pp l ee R s m ([.ref (ad 0), .ref pa, .ref pb, .int (nI A.length), .int (nI (mskA A)), .int 1] : List Value).toArray below meth c H locs 0 0 Q (F0 m 18 ls []) := by
      intro nn
      induction nn with
      | zero => intro k f9 H locs ls hm; exact absurd hm (Nat.not_lt_zero _)
      | succ nn ih =>
        intro k f9 H locs ls hm hk hf9 hW hl
        refine lv_iload hx hb dX4_put_18 (lv_at hl 6 rfl) ?_
        refine lv_aload_n hx hb dX4_put_20 rfl (lv_at hl 1 rfl) ?_
        refine gtN hF hW (ms_r ha1) (ci := 22) rfl in_X6 0 (by decide) (List.mem_of_getElem? (i := 7) rfl) rfl (v := .int (nI a.1.length)) rfl dX4_put_21 ?_
        refine lv_icmp_ge (tgt := 47) hx hb dX4_put_24 (by decide) (fun c_24 => ?_) (fun c_24 => ?_)
        · refine lv_aload_n hx hb dX4_put_47 rfl (lv_at hl 0 rfl) ?_
          refine lv_dup hx hb dX4_put_48 rfl ?_
          refine gM0_ways hF hW q1136 (v := nI w) (rfl) dX4_put_49 ?_
          refine lv_iconst (v := 1) hx hb dX4_put_52 (by decide) ?_
          refine lv_iadd hx hb dX4_put_53 ?_
          refine lv_eqi (show (nI w) + 1 = nI (w + 1) from nI_add w 1) ?_
          refine pM0_ways hF hW q1136 dX4_put_54 (fun H locs hW => ?_)
          have hW : pM G (MWl G ad (xi (mfx x (nI w) go f9) 17 (nI (w + 1))) ++ T) s _ _ := hW
          exact re_v hF hRt hLk hQ (by omega) (by omega) dX4_put_57 (nI (w + 1), go, f9) (⟨by show nI (w + 1) = nI (wC true w 1); unfold wC; simp; have := g3 rfl; rw [this]; rfl, g1, fun j hj => by show f9 j = fiF w fi [A] j; unfold fiF; rw [if_pos hw0, hf9 j (by have := le_le c_24; omega)]; exact g1 j (by omega)⟩) hW
        · have hkl : k < a.1.length := nle_lt c_24
          refine lv_aload_n hx hb dX4_put_27 rfl (lv_at hl 0 rfl) ?_
          refine gM0_firstWay hF hW q1135 dX4_put_28 ?_
          refine lv_iload hx hb dX4_put_31 (lv_at hl 6 rfl) ?_
          refine lv_aload_n hx hb dX4_put_33 rfl (lv_at hl 0 rfl) ?_
          refine gM0_goes hF hW q1134 dX4_put_34 ?_
          refine lv_iload hx hb dX4_put_37 (lv_at hl 6 rfl) ?_
          refine lM22 hF hW (j := k) (rfl) (by omega) (v := go k) (rfl) dX4_put_39 ?_
          refine sM23 hF hW (j := k) (rfl) (by omega) dX4_put_40 (fun H locs hW => ?_)
          have hW : pM G (MWl G ad (xa (mfx x (nI w) go f9) 15 (va_up ((mfx x (nI w) go f9).2.1 15) k (go k))) ++ T) s _ _ := hW
          have hW : pM G (MWl G ad (mfx x (nI w) go (va_up f9 k (go k))) ++ T) s _ _ := hW
          refine lv_iinc (v := nI (k + 1)) (lv' := [(6, .int (nI (k + 1))), (0, .ref (ad 0)), (1, .ref pa), (2, .ref pb), (3, .int (nI A.length)), (4, .int (nI (mskA A))), (5, .int 1)]) hx hb dX4_put_41 hl (k := 6) rfl (nI_1 _) (by decide) rfl (fun ls hl => ?_)
          refine lv_goto (tgt := 18) hx hb dX4_put_44 (by decide) ?_
          exact ih (k + 1) (va_up f9 k (go k)) H locs ls (by have := nle_lt c_24; omega) (by have := nle_lt c_24; omega) (fun j hj => if h : j = k then by rw [h, up_s] else by rw [up_n h]; exact hf9 j (by omega)) hW (lv_sub hl [1, 2, 3, 4, 5, 6, 0] rfl)
    exact loop_18 _ 0 fi _ _ _ (Nat.lt_succ_self _) (Nat.zero_le _) (fun j hj => absurd hj (Nat.not_lt_zero _)) hW (lv_sub hl [1, 2, 3, 4, 5, 6, 0] rfl)

set_option maxRecDepth 100000 in
set_option maxHeartbeats 4000000 in
theorem mX4_put0_false (l : Launch) (G : pG) (ad : Nat → Nat) (x : XV) (T : va_W) (pa pb : Nat) (a b : Tx) (ha9 : MU G T pa a) (hb9 : MU G T pb b) (nW : Nat) (hwd : WdOk (x.2.1 0) nW) (hW60 : nW ≤ 60) (hoka : TxOk nW 8 10 a) (hokb : TxOk nW 8 10 b) (A : List (Option Nat)) (w : Nat) (go fi : Nat → Int32) (g0 : A.length + 0 = a.1.length) (g1 : ∀ i, i < A.length → go i = enc (A.getD i none)) (g2 : ∀ i p, A.getD i none = some p → p < 8) (g3 : false = true → w = 0) (g4 : w + (solsF (x.2.1 0) a b (2 ^ a.1.length - 1) 0 A).length < 2147483647) (g5 : AllS A) : Met l yX4_put (ws_ yX4_put cX4_put 7 none) (rmG 0) (va_Pc [.ref (ad 0), .ref pa, .ref pb, .int (nI A.length), .int (nI (mskA A)), .int 2147483647] (fun U => pW G (MWl G ad (mfx x (nI w) go fi) ++ T) U)) (va_Qv (fun (u : MF) => u.1 = nI (wC false w (solsF (x.2.1 0) a b (2 ^ a.1.length - 1) 0 A).length) ∧ (∀ j, j < A.length → u.2.1 j = enc (A.getD j none)) ∧ (∀ j, j < a.1.length → u.2.2 j = fiF w fi (solsF (x.2.1 0) a b (2 ^ a.1.length - 1) 0 A) j)) (fun (u : MF) t9 => pW G (MWl G ad (mfx x u.1 u.2.1 u.2.2) ++ T) t9) (pA G)) 0 0 (pA G) := by
  refine mw (by decide) (Nat.le_of_ble_eq_true rfl) ?_
  intro pp ee R s m below meth c ls Q hF hRt hLk hnm hR hQ hW hl
  have hx := hF.1
  have hb := hF.2.1
  have hts := hF.2.2.2.2
  have hR1 : R.frames = 5 := by subst hR; rfl
  have hR2 : R.cells = 0 := by subst hR; rfl
  have hR3 : R.slots = 0 := by subst hR; rfl
  have hR4 : R.locals = 200 := by subst hR; rfl
  have hl : lv_has ls 7 [(0, .ref (ad 0)), (1, .ref pa), (2, .ref pb), (3, .int (nI A.length)), (4, .int (nI (mskA A))), (5, .int 2147483647)] := hl
  have hW : pM G (MWl G ad (mfx x (nI w) go fi) ++ T) s s.heap [] := hW
  obtain ⟨ana, awa, afa, ava, ata, nfa, wfa, ffa, vfa, tfa, ha1, ha2, ha3, ha4, ha5, ha6, ha7⟩ := ha9
  have e0 : A.length = a.1.length := g0
  have ha8 := hoka.2.2.1
  have g4 : w + 1 < 2147483647 := g4
  refine lv_iload_n hx hb dX4_put_0 rfl (lv_at hl 3 rfl) ?_
  refine lv_aload_n hx hb dX4_put_1 rfl (lv_at hl 1 rfl) ?_
  refine gtN hF hW (ms_r ha1) (ci := 22) rfl in_X6 0 (by decide) (List.mem_of_getElem? (i := 7) rfl) rfl (v := .int (nI a.1.length)) rfl dX4_put_2 ?_
  refine lv_icmp_ne (tgt := 58) hx hb dX4_put_5 (by decide) (fun c_5 => absurd (show nI A.length = nI a.1.length by rw [e0]) c_5) (fun c_5 => ?_)
  refine lv_aload_n hx hb dX4_put_8 rfl (lv_at hl 0 rfl) ?_
  refine gM0_ways hF hW q1136 (v := nI w) (rfl) dX4_put_9 ?_
  refine lv_if_ne (tgt := 47) hx hb dX4_put_12 (by decide) (fun c_12 => ?_) (fun c_12 => ?_)
  · have hw0 : ¬ w = 0 := fun z => c_12 (by rw [z]; rfl)
    refine lv_aload_n hx hb dX4_put_47 rfl (lv_at hl 0 rfl) ?_
    refine lv_dup hx hb dX4_put_48 rfl ?_
    refine gM0_ways hF hW q1136 (v := nI w) (rfl) dX4_put_49 ?_
    refine lv_iconst (v := 1) hx hb dX4_put_52 (by decide) ?_
    refine lv_iadd hx hb dX4_put_53 ?_
    refine lv_eqi (show (nI w) + 1 = nI (w + 1) from nI_add w 1) ?_
    refine pM0_ways hF hW q1136 dX4_put_54 (fun H locs hW => ?_)
    have hW : pM G (MWl G ad (xi (mfx x (nI w) go fi) 17 (nI (w + 1))) ++ T) s _ _ := hW
    exact re_v hF hRt hLk hQ (by omega) (by omega) dX4_put_57 (nI (w + 1), go, fi) (⟨by show nI (w + 1) = nI (wC false w 1); unfold wC; simp, g1, fun j hj => by show fi j = fiF w fi [A] j; unfold fiF; rw [if_neg hw0]⟩) hW
  · have hw0 : w = 0 := eq_eq (b := 0) c_12
    refine lv_iconst (v := 0) hx hb dX4_put_15 (by decide) ?_
    refine lv_istore (lv' := [(6, .int 0), (0, .ref (ad 0)), (1, .ref pa), (2, .ref pb), (3, .int (nI A.length)), (4, .int (nI (mskA A))), (5, .int 2147483647)]) hx hb dX4_put_16 hl (by decide) rfl (fun ls hl => ?_)
    have loop_18 : ∀ (nn : Nat) (k : Nat) (f9 : Nat → Int32) (H : Heap) (locs : List Loc) (ls : Array Slot), a.1.length - k < nn → (k ≤ a.1.length) → (∀ j, j < k → f9 j = go j) → pM G (MWl G ad (mfx x (nI w) go f9) ++ T) s H locs → lv_has ls 7 [(0, .ref (ad 0)), (1, .ref pa), (2, .ref pb), (3, .int (nI A.length)), (4, .int (nI (mskA A))), (5, .int 2147483647), (6, .int (nI k))] → W pp l ee R s m ([.ref (ad 0), .ref pa, .ref pb, .int (nI A.length), .int (nI (mskA A)), .int 2147483647] : List Value).toArray below meth c H locs 0 0 Q (F0 m 18 ls []) := by
      intro nn
      induction nn with
      | zero => intro k f9 H locs ls hm; exact absurd hm (Nat.not_lt_zero _)
      | succ nn ih =>
        intro k f9 H locs ls hm hk hf9 hW hl
        refine lv_iload hx hb dX4_put_18 (lv_at hl 6 rfl) ?_
        refine lv_aload_n hx hb dX4_put_20 rfl (lv_at hl 1 rfl) ?_
        refine gtN hF hW (ms_r ha1) (ci := 22) rfl in_X6 0 (by decide) (List.mem_of_getElem? (i := 7) rfl) rfl (v := .int (nI a.1.length)) rfl dX4_put_21 ?_
        refine lv_icmp_ge (tgt := 47) hx hb dX4_put_24 (by decide) (fun c_24 => ?_) (fun c_24 => ?_)
        · refine lv_aload_n hx hb dX4_put_47 rfl (lv_at hl 0 rfl) ?_
          refine lv_dup hx hb dX4_put_48 rfl ?_
          refine gM0_ways hF hW q1136 (v := nI w) (rfl) dX4_put_49 ?_
          refine lv_iconst (v := 1) hx hb dX4_put_52 (by decide) ?_
          refine lv_iadd hx hb dX4_put_53 ?_
          refine lv_eqi (show (nI w) + 1 = nI (w + 1) from nI_add w 1) ?_
          refine pM0_ways hF hW q1136 dX4_put_54 (fun H locs hW => ?_)
          have hW : pM G (MWl G ad (xi (mfx x (nI w) go f9) 17 (nI (w + 1))) ++ T) s _ _ := hW
          exact re_v hF hRt hLk hQ (by omega) (by omega) dX4_put_57 (nI (w + 1), go, f9) (⟨by show nI (w + 1) = nI (wC false w 1); unfold wC; simp, g1, fun j hj => by show f9 j = fiF w fi [A] j; unfold fiF; rw [if_pos hw0, hf9 j (by have := le_le c_24; omega)]; exact g1 j (by omega)⟩) hW
        · have hkl : k < a.1.length := nle_lt c_24
          refine lv_aload_n hx hb dX4_put_27 rfl (lv_at hl 0 rfl) ?_
          refine gM0_firstWay hF hW q1135 dX4_put_28 ?_
          refine lv_iload hx hb dX4_put_31 (lv_at hl 6 rfl) ?_
          refine lv_aload_n hx hb dX4_put_33 rfl (lv_at hl 0 rfl) ?_
          refine gM0_goes hF hW q1134 dX4_put_34 ?_
          refine lv_iload hx hb dX4_put_37 (lv_at hl 6 rfl) ?_
          refine lM22 hF hW (j := k) (rfl) (by omega) (v := go k) (rfl) dX4_put_39 ?_
          refine sM23 hF hW (j := k) (rfl) (by omega) dX4_put_40 (fun H locs hW => ?_)
          have hW : pM G (MWl G ad (xa (mfx x (nI w) go f9) 15 (va_up ((mfx x (nI w) go f9).2.1 15) k (go k))) ++ T) s _ _ := hW
          have hW : pM G (MWl G ad (mfx x (nI w) go (va_up f9 k (go k))) ++ T) s _ _ := hW
          refine lv_iinc (v := nI (k + 1)) (lv' := [(6, .int (nI (k + 1))), (0, .ref (ad 0)), (1, .ref pa), (2, .ref pb), (3, .int (nI A.length)), (4, .int (nI (mskA A))), (5, .int 2147483647)]) hx hb dX4_put_41 hl (k := 6) rfl (nI_1 _) (by decide) rfl (fun ls hl => ?_)
          refine lv_goto (tgt := 18) hx hb dX4_put_44 (by decide) ?_
          exact ih (k + 1) (va_up f9 k (go k)) H locs ls (by have := nle_lt c_24; omega) (by have := nle_lt c_24; omega) (fun j hj => if h : j = k then by rw [h, up_s] else by rw [up_n h]; exact hf9 j (by omega)) hW (lv_sub hl [1, 2, 3, 4, 5, 6, 0] rfl)
    exact loop_18 _ 0 fi _ _ _ (Nat.lt_succ_self _) (Nat.zero_le _) (fun j hj => absurd hj (Nat.not_lt_zero _)) hW (lv_sub hl [1, 2, 3, 4, 5, 6, 0] rfl)

set_option maxRecDepth 100000 in
set_option maxHeartbeats 16000000 in
theorem mX4_putS_true (l : Launch) (G : pG) (ad : Nat → Nat) (x : XV) (T : va_W) (pa pb : Nat) (a b : Tx) (ha9 : MU G T pa a) (hb9 : MU G T pb b) (nW : Nat) (hwd : WdOk (x.2.1 0) nW) (hW60 : nW ≤ 60) (hoka : TxOk nW 8 10 a) (hokb : TxOk nW 8 10 b) (mm : Nat) (hrec : ∀ (A1 : List (Option Nat)) (w1 : Nat) (go1 fi1 : Nat → Int32), (A1.length + mm = a.1.length) → (∀ i, i < A1.length → go1 i = enc (A1.getD i none)) → (∀ i p, A1.getD i none = some p → p < 8) → (true = true → w1 = 0) → (w1 + (solsF (x.2.1 0) a b (2 ^ a.1.length - 1) mm A1).length < 2147483647) → (AllS A1) → Met l yX4_put (ws_ yX4_put cX4_put 7 none) (rmG mm) (va_Pc [.ref (ad 0), .ref pa, .ref pb, .int (nI A1.length), .int (nI (mskA A1)), .int 1] (fun U => pW G (MWl G ad (mfx x (nI w1) go1 fi1) ++ T) U)) (va_Qv (fun (u : MF) => u.1 = nI (wC true w1 (solsF (x.2.1 0) a b (2 ^ a.1.length - 1) mm A1).length) ∧ (∀ j, j < A1.length → u.2.1 j = enc (A1.getD j none)) ∧ (∀ j, j < a.1.length → u.2.2 j = fiF w1 fi1 (solsF (x.2.1 0) a b (2 ^ a.1.length - 1) mm A1) j)) (fun (u : MF) t9 => pW G (MWl G ad (mfx x u.1 u.2.1 u.2.2) ++ T) t9) (pA G)) 0 0 (pA G)) (A : List (Option Nat)) (w : Nat) (go fi : Nat → Int32) (g0 : A.length + (mm + 1) = a.1.length) (g1 : ∀ i, i < A.length → go i = enc (A.getD i none)) (g2 : ∀ i p, A.getD i none = some p → p < 8) (g3 : true = true → w = 0) (g4 : w + (solsF (x.2.1 0) a b (2 ^ a.1.length - 1) (mm + 1) A).length < 2147483647) (g5 : AllS A) : Met l yX4_put (ws_ yX4_put cX4_put 7 none) (rmG (mm + 1)) (va_Pc [.ref (ad 0), .ref pa, .ref pb, .int (nI A.length), .int (nI (mskA A)), .int 1] (fun U => pW G (MWl G ad (mfx x (nI w) go fi) ++ T) U)) (va_Qv (fun (u : MF) => u.1 = nI (wC true w (solsF (x.2.1 0) a b (2 ^ a.1.length - 1) (mm + 1) A).length) ∧ (∀ j, j < A.length → u.2.1 j = enc (A.getD j none)) ∧ (∀ j, j < a.1.length → u.2.2 j = fiF w fi (solsF (x.2.1 0) a b (2 ^ a.1.length - 1) (mm + 1) A) j)) (fun (u : MF) t9 => pW G (MWl G ad (mfx x u.1 u.2.1 u.2.2) ++ T) t9) (pA G)) 0 0 (pA G) := by
  refine mw (by decide) (Nat.le_of_ble_eq_true rfl) ?_
  intro pp ee R s m below meth c ls Q hF hRt hLk hnm hR hQ hW hl
  have hx := hF.1
  have hb := hF.2.1
  have hts := hF.2.2.2.2
  have hR1 : R.frames = mm + 1 + 5 := by subst hR; rfl
  have hR2 : R.cells = 0 := by subst hR; rfl
  have hR3 : R.slots = 0 := by subst hR; rfl
  have hR4 : R.locals = 60 * (mm + 1) + 200 := by subst hR; rfl
  have hl : lv_has ls 7 [(0, .ref (ad 0)), (1, .ref pa), (2, .ref pb), (3, .int (nI A.length)), (4, .int (nI (mskA A))), (5, .int 1)] := hl
  have hW : pM G (MWl G ad (mfx x (nI w) go fi) ++ T) s s.heap [] := hW
  obtain ⟨ana, awa, afa, ava, ata, nfa, wfa, ffa, vfa, tfa, ha1, ha2, ha3, ha4, ha5, ha6, ha7⟩ := (id ha9)
  obtain ⟨anb, awb, afb, avb, atb, nfb, wfb, ffb, vfb, tfb, hb1, hb2, hb3, hb4, hb5, hb6, hb7⟩ := (id hb9)
  have ha8 := hoka.2.2.1
  have hb8 := hokb.2.2.1
  have hkl : A.length < a.1.length := by omega
  have hm8 := msk_lt g2
  refine lv_iload_n hx hb dX4_put_0 rfl (lv_at hl 3 rfl) ?_
  refine lv_aload_n hx hb dX4_put_1 rfl (lv_at hl 1 rfl) ?_
  refine gtN hF hW (ms_r ha1) (ci := 22) rfl in_X6 0 (by decide) (List.mem_of_getElem? (i := 7) rfl) rfl (v := .int (nI a.1.length)) rfl dX4_put_2 ?_
  refine lv_icmp_ne (tgt := 58) hx hb dX4_put_5 (by decide) (fun c_5 => ?_) (fun c_5 => absurd c_5 (fun z => by have := eq_eq z; omega))
  have eqS : solsF (x.2.1 0) a b (2 ^ a.1.length - 1) (mm + 1) A = (List.range b.1.length).flatMap (solB (x.2.1 0) a b A (solsF (x.2.1 0) a b (2 ^ a.1.length - 1) mm)) := if_pos (all_bit hkl)
  rw [eqS] at g4
  have e0w : nI w = nI (wC true w ((List.range 0).flatMap (solB (x.2.1 0) a b A (solsF (x.2.1 0) a b (2 ^ a.1.length - 1) mm))).length) := by rw [show (List.range 0).flatMap (solB (x.2.1 0) a b A (solsF (x.2.1 0) a b (2 ^ a.1.length - 1) mm)) = [] from rfl, List.length_nil, wC_0]
  rw [e0w] at hW
  refine lv_iconst (v := 0) hx hb dX4_put_58 (by decide) ?_
  refine lv_istore (lv' := [(6, .int 0), (0, .ref (ad 0)), (1, .ref pa), (2, .ref pb), (3, .int (nI A.length)), (4, .int (nI (mskA A))), (5, .int 1)]) hx hb dX4_put_59 hl (by decide) rfl (fun ls hl => ?_)
  have loop_61 : ∀ (nn : Nat) (p : Nat) (go1 : Nat → Int32) (fi1 : Nat → Int32) (H : Heap) (locs : List Loc) (ls : Array Slot), b.1.length - p < nn → (p ≤ b.1.length) → (∀ i, i < A.length → go1 i = enc (A.getD i none)) → (∀ j, j < a.1.length → fi1 j = fiF w fi ((List.range p).flatMap (solB (x.2.1 0) a b A (solsF (x.2.1 0) a b (2 ^ a.1.length - 1) mm))) j) → pM G (MWl G ad (mfx x (nI (wC true w ((List.range p).flatMap (solB (x.2.1 0) a b A (solsF (x.2.1 0) a b (2 ^ a.1.length - 1) mm))).length)) go1 fi1) ++ T) s H locs → lv_has ls 7 [(0, .ref (ad 0)), (1, .ref pa), (2, .ref pb), (3, .int (nI A.length)), (4, .int (nI (mskA A))), (5, .int 1), (6, .int (nI p))] → W pp l ee R s m ([.ref (ad 0), .ref pa, .ref pb, .int (nI A.length), .int (nI (mskA A)), .int 1] : List Value).toArray below meth c H locs 0 0 Q (F0 m 61 ls []) := by
    intro nn
    induction nn with
    | zero => intro p go1 fi1 H locs ls hm; exact absurd hm (Nat.not_lt_zero _)
    | succ nn ih =>
      intro p go1 fi1 H locs ls hm hp hgo1 hfi1 hW hl
      refine lv_iload hx hb dX4_put_61 (lv_at hl 6 rfl) ?_
      refine lv_aload_n hx hb dX4_put_63 rfl (lv_at hl 2 rfl) ?_
      refine gtN hF hW (ms_r hb1) (ci := 22) rfl in_X6 0 (by decide) (List.mem_of_getElem? (i := 7) rfl) rfl (v := .int (nI b.1.length)) rfl dX4_put_64 ?_
      refine lv_icmp_ge (tgt := 155) hx hb dX4_put_67 (by decide) (fun c_67 => ?_) (fun c_67 => ?_)
      · exact re_v hF hRt hLk hQ (by omega) (by omega) dX4_put_155 (nI (wC true w ((List.range p).flatMap (solB (x.2.1 0) a b A (solsF (x.2.1 0) a b (2 ^ a.1.length - 1) mm))).length), go1, fi1) (my_end eqS (Nat.le_antisymm hp (le_le c_67)) hgo1 hfi1) hW
      · have hpl : p < b.1.length := nle_lt c_67
        obtain ⟨rr, hrr⟩ := rng_le (solB (x.2.1 0) a b A (solsF (x.2.1 0) a b (2 ^ a.1.length - 1) mm)) (show p + 1 ≤ b.1.length by omega)
        have hlen := congrArg List.length hrr
        rw [List.length_append, rng_s, List.length_append] at hlen
        refine lv_aload_n hx hb dX4_put_70 rfl (lv_at hl 0 rfl) ?_
        refine gM0_ways hF hW q1136 (v := nI (wC true w ((List.range p).flatMap (solB (x.2.1 0) a b A (solsF (x.2.1 0) a b (2 ^ a.1.length - 1) mm))).length)) (rfl) dX4_put_71 ?_
        refine lv_iload hx hb dX4_put_74 (lv_at hl 5 rfl) ?_
        refine lv_icmp_ge (tgt := 155) hx hb dX4_put_76 (by decide) (fun c_76 => ?_) (fun c_76 => ?_)
        · have hgt : 0 < (wC true w ((List.range p).flatMap (solB (x.2.1 0) a b A (solsF (x.2.1 0) a b (2 ^ a.1.length - 1) mm))).length) := le_le (a := 1) c_76 (by decide) (by unfold wC; simp only [if_true]; split <;> omega)
          exact re_v hF hRt hLk hQ (by omega) (by omega) dX4_put_155 (nI (wC true w ((List.range p).flatMap (solB (x.2.1 0) a b A (solsF (x.2.1 0) a b (2 ^ a.1.length - 1) mm))).length), go1, fi1) (my_cut eqS (rng_le (solB (x.2.1 0) a b A (solsF (x.2.1 0) a b (2 ^ a.1.length - 1) mm)) hp) hgt hgo1 hfi1) hW
        · have hgt : (wC true w ((List.range p).flatMap (solB (x.2.1 0) a b A (solsF (x.2.1 0) a b (2 ^ a.1.length - 1) mm))).length) = 0 := by have := nle_lt (a := 1) (b := (wC true w ((List.range p).flatMap (solB (x.2.1 0) a b A (solsF (x.2.1 0) a b (2 ^ a.1.length - 1) mm))).length)) c_76 (by decide) (by unfold wC; simp only [if_true]; split <;> omega); omega
          refine lv_iload hx hb dX4_put_79 (lv_at hl 4 rfl) ?_
          refine lv_iload hx hb dX4_put_81 (lv_at hl 6 rfl) ?_
          refine lv_ishr hx hb dX4_put_83 ?_
          refine lv_iconst (v := 1) hx hb dX4_put_84 (by decide) ?_
          refine lv_iand hx hb dX4_put_85 ?_
          refine lv_iconst (v := 1) hx hb dX4_put_86 (by decide) ?_
          refine lv_icmp_eq (tgt := 149) hx hb dX4_put_87 (by decide) (fun c_87 => ?_) (fun c_87 => ?_)
          · have hin : some p ∈ A := by have := (bit_t (by omega) (by omega)).mp c_87; rw [msk_bit] at this; exact of_decide_eq_true this
            have hbd : solB (x.2.1 0) a b A (solsF (x.2.1 0) a b (2 ^ a.1.length - 1) mm) p = [] := if_pos (Or.inl hin)
            have ew : (wC true w ((List.range p).flatMap (solB (x.2.1 0) a b A (solsF (x.2.1 0) a b (2 ^ a.1.length - 1) mm))).length) = wC true w ((List.range (p + 1)).flatMap (solB (x.2.1 0) a b A (solsF (x.2.1 0) a b (2 ^ a.1.length - 1) mm))).length := by rw [rng_s, hbd, List.append_nil]
            rw [ew] at hW
            have hW : pM G (MWl G ad (mfx x (nI (wC true w ((List.range (p + 1)).flatMap (solB (x.2.1 0) a b A (solsF (x.2.1 0) a b (2 ^ a.1.length - 1) mm))).length)) go1 fi1) ++ T) s _ _ := hW
            refine lv_iinc (v := nI (p + 1)) (lv' := [(6, .int (nI (p + 1))), (0, .ref (ad 0)), (1, .ref pa), (2, .ref pb), (3, .int (nI A.length)), (4, .int (nI (mskA A))), (5, .int 1)]) hx hb dX4_put_149 hl (k := 6) rfl (nI_1 _) (by decide) rfl (fun ls hl => ?_)
            refine lv_goto (tgt := 61) hx hb dX4_put_152 (by decide) ?_
            exact ih (p + 1) go1 fi1 H locs ls (by omega) (by omega) (hgo1) (fun j hj => by rw [rng_s]; exact (hfi1 j hj).trans (by rw [hbd, List.append_nil])) hW (lv_sub hl [1, 2, 3, 4, 5, 6, 0] rfl)
          · have hin : ¬ some p ∈ A := fun z => c_87 ((bit_t (by omega) (by omega)).mpr (by rw [msk_bit]; exact decide_eq_true z))
            refine lv_aload_n hx hb dX4_put_90 rfl (lv_at hl 0 rfl) ?_
            refine lv_aload_n hx hb dX4_put_91 rfl (lv_at hl 2 rfl) ?_
            refine gtN hF hW (ms_r hb1) (ci := 22) rfl in_X6 3 (by decide) (List.mem_of_getElem? (i := 10) rfl) rfl (v := .ref awb) rfl dX4_put_92 ?_
            refine lv_iload hx hb dX4_put_95 (lv_at hl 6 rfl) ?_
            refine al_i hF hW (ms_r hb3) 0 rfl (j := p) (rfl) (by omega) (by decide) dX4_put_97 ?_
            refine lv_eqv (congrArg Value.int (show wfb p = nI (b.2.1.getD p 0) from hb7.1 p hpl)) ?_
            refine lv_aload_n hx hb dX4_put_98 rfl (lv_at hl 1 rfl) ?_
            refine gtN hF hW (ms_r ha1) (ci := 22) rfl in_X6 3 (by decide) (List.mem_of_getElem? (i := 10) rfl) rfl (v := .ref awa) rfl dX4_put_99 ?_
            refine lv_iload_n hx hb dX4_put_102 rfl (lv_at hl 3 rfl) ?_
            refine al_i hF hW (ms_r ha3) 0 rfl (j := A.length) (rfl) (by omega) (by decide) dX4_put_103 ?_
            refine lv_eqv (congrArg Value.int (show wfa A.length = nI (a.2.1.getD A.length 0) from ha7.1 A.length hkl)) ?_
            have hwb : b.2.1.getD p 0 < nW := hokb.2.2.2.2.1 _ (getD_mem (by rw [hokb.2.1]; exact hpl))
            have hwa : a.2.1.getD A.length 0 < nW := hoka.2.2.2.2.1 _ (getD_mem (by rw [hoka.2.1]; exact hkl))
            refine cl_i (ru_V (As := [.int (nI (b.2.1.getD p 0)), .int (nI (a.2.1.getD A.length 0))]) (rest := []) hF (mX4_isUnder l G ad (mfx x (nI (wC true w ((List.range p).flatMap (solB (x.2.1 0) a b A (solsF (x.2.1 0) a b (2 ^ a.1.length - 1) mm))).length)) go1 fi1) T (b.2.1.getD p 0) (a.2.1.getD A.length 0) nW hwd hW60 hwb (by omega)) (cwV 2 hts (lw_V q1299 q1301 qs38 q66 q1302) rfl rfl rfl (by decide +kernel) ⟨by rw [hR1]; dsimp only [rmG]; omega, by rw [hR4]; dsimp only [rmG]; omega⟩) hW (List.mem_of_getElem? (i := 0) rfl) (ci := 20) rfl rfl rfl hl.1 rfl (lv_room (Nat.le_of_ble_eq_true rfl)) dX4_put_104 ⟨by omega, by omega⟩) hW (fun r_1 u_2 H locs h_3 hW => ?_)
            have hW : pM G (MWl G ad (mfx x (nI (wC true w ((List.range p).flatMap (solB (x.2.1 0) a b A (solsF (x.2.1 0) a b (2 ^ a.1.length - 1) mm))).length)) go1 fi1) ++ T) s _ _ := hW
            rcases h_3 with ⟨rfl, b_104⟩ | ⟨rfl, b_104⟩
            · refine lv_if_ne (tgt := 113) hx hb dX4_put_107 (by decide) (fun c_107 => ?_) (fun c_107 => absurd c_107 (by decide))
              refine lv_aload_n hx hb dX4_put_113 rfl (lv_at hl 0 rfl) ?_
              refine gM0_goes hF hW q1134 dX4_put_114 ?_
              refine lv_iload_n hx hb dX4_put_117 rfl (lv_at hl 3 rfl) ?_
              refine lv_iload hx hb dX4_put_118 (lv_at hl 6 rfl) ?_
              refine sM22 hF hW (j := A.length) (rfl) (by omega) dX4_put_120 (fun H locs hW => ?_)
              have hW : pM G (MWl G ad (xa (mfx x (nI (wC true w ((List.range p).flatMap (solB (x.2.1 0) a b A (solsF (x.2.1 0) a b (2 ^ a.1.length - 1) mm))).length)) go1 fi1) 14 (va_up ((mfx x (nI (wC true w ((List.range p).flatMap (solB (x.2.1 0) a b A (solsF (x.2.1 0) a b (2 ^ a.1.length - 1) mm))).length)) go1 fi1).2.1 14) A.length (nI p))) ++ T) s _ _ := hW
              have hW : pM G (MWl G ad (mfx x (nI (wC true w ((List.range p).flatMap (solB (x.2.1 0) a b A (solsF (x.2.1 0) a b (2 ^ a.1.length - 1) mm))).length)) (va_up go1 A.length (nI p)) fi1) ++ T) s _ _ := hW
              refine lv_aload_n hx hb dX4_put_121 rfl (lv_at hl 0 rfl) ?_
              refine lv_aload_n hx hb dX4_put_122 rfl (lv_at hl 1 rfl) ?_
              refine lv_aload_n hx hb dX4_put_123 rfl (lv_at hl 2 rfl) ?_
              refine lv_iload_n hx hb dX4_put_124 rfl (lv_at hl 3 rfl) ?_
              refine cl_i (ru_V (As := [.ref pa, .ref pb, .int (nI A.length)]) (rest := []) hF (mX4_isLinked l G ad (mfx x (nI (wC true w ((List.range p).flatMap (solB (x.2.1 0) a b A (solsF (x.2.1 0) a b (2 ^ a.1.length - 1) mm))).length)) (va_up go1 A.length (nI p)) fi1) T pa pb a b ha9 hb9 nW hwd hW60 hoka hokb (A ++ [some p]) (goA hgo1) g5.app (A8 g2 (by omega)) A.length (by omega) (by rw [List.length_append]; rfl)) (cwV 3 hts (lw_V q1374 q1376 qs49 q66 q1377) rfl rfl rfl (by decide +kernel) ⟨by rw [hR1]; dsimp only [rmG]; omega, by rw [hR4]; dsimp only [rmG]; omega⟩) hW (List.mem_of_getElem? (i := 0) rfl) (ci := 20) rfl rfl rfl hl.1 rfl (lv_room (Nat.le_of_ble_eq_true rfl)) dX4_put_125 ⟨by omega, by omega⟩) hW (fun r_4 u_5 H locs h_6 hW => ?_)
              have hW : pM G (MWl G ad (mfx x (nI (wC true w ((List.range p).flatMap (solB (x.2.1 0) a b A (solsF (x.2.1 0) a b (2 ^ a.1.length - 1) mm))).length)) (va_up go1 A.length (nI p)) fi1) ++ T) s _ _ := hW
              rcases h_6 with ⟨rfl, b_125⟩ | ⟨rfl, b_125⟩
              · refine lv_if_eq (tgt := 149) hx hb dX4_put_128 (by decide) (fun c_128 => absurd c_128 (by decide)) (fun c_128 => ?_)
                refine lv_aload_n hx hb dX4_put_131 rfl (lv_at hl 0 rfl) ?_
                refine lv_aload_n hx hb dX4_put_132 rfl (lv_at hl 1 rfl) ?_
                refine lv_aload_n hx hb dX4_put_133 rfl (lv_at hl 2 rfl) ?_
                refine lv_iload_n hx hb dX4_put_134 rfl (lv_at hl 3 rfl) ?_
                refine lv_iconst (v := 1) hx hb dX4_put_135 (by decide) ?_
                refine lv_iadd hx hb dX4_put_136 ?_
                refine lv_eqi (show (nI A.length) + 1 = nI (A ++ [some p]).length from (nI_1 _).trans (by rw [List.length_append]; rfl)) ?_
                refine lv_iload hx hb dX4_put_137 (lv_at hl 4 rfl) ?_
                refine lv_iconst (v := 1) hx hb dX4_put_139 (by decide) ?_
                refine lv_iload hx hb dX4_put_140 (lv_at hl 6 rfl) ?_
                refine lv_ishl hx hb dX4_put_142 ?_
                refine lv_eqi (show 1 <<< ((nI p) &&& 31) = nI (2 ^ p) from one_shl p (by omega)) ?_
                refine lv_ior hx hb dX4_put_143 ?_
                refine lv_eqi (show (nI (mskA A)) ||| (nI (2 ^ p)) = nI (mskA (A ++ [some p])) from (nI_or _ _).trans (by rw [msk_app])) ?_
                refine lv_iload hx hb dX4_put_144 (lv_at hl 5 rfl) ?_
                have hbd : solB (x.2.1 0) a b A (solsF (x.2.1 0) a b (2 ^ a.1.length - 1) mm) p = solsF (x.2.1 0) a b (2 ^ a.1.length - 1) mm (A ++ [some p]) := sol_yes hin b_104 b_125
                have eL : A.length + 1 = (A ++ [some p]).length := by rw [List.length_append]; rfl
                refine cl_v (ru_V (mc := 0) (ms := 0) (As := [.ref pa, .ref pb, .int (nI (A ++ [some p]).length), .int (nI (mskA (A ++ [some p]))), .int 1]) (rest := []) hF (hrec (A ++ [some p]) (wC true w ((List.range p).flatMap (solB (x.2.1 0) a b A (solsF (x.2.1 0) a b (2 ^ a.1.length - 1) mm))).length) (va_up go1 A.length (nI p)) fi1 (by rw [← eL]; omega) (goA hgo1) (A8 g2 (by omega)) (fun _ => hgt) (by rw [← hbd]; unfold wC; simp only [if_true, if_false, Bool.false_eq_true]; split <;> omega) g5.app) (cwV 5 hts (lw_V q1370 q1372 qs48 q66 q1373) rfl rfl rfl (by decide +kernel) ⟨by rw [hR1]; dsimp only [rmG]; omega, by rw [hR4]; dsimp only [rmG]; omega⟩) hW (List.mem_of_getElem? (i := 0) rfl) (ci := 20) rfl rfl rfl hl.1 rfl (lv_room (Nat.le_of_ble_eq_true rfl)) dX4_put_146 ⟨by omega, by omega⟩) hW (fun u_ H locs h_ hW => ?_)
                obtain ⟨w2, go2, fi2⟩ := u_
                obtain ⟨r1, r2, r3⟩ := h_
                have r1 : w2 = _ := r1
                subst r1
                have hW : pM G (MWl G ad (mfx x (nI (wC true (wC true w ((List.range p).flatMap (solB (x.2.1 0) a b A (solsF (x.2.1 0) a b (2 ^ a.1.length - 1) mm))).length) (solsF (x.2.1 0) a b (2 ^ a.1.length - 1) mm (A ++ [some p])).length)) go2 fi2) ++ T) s _ _ := hW
                have ew : wC true (wC true w ((List.range p).flatMap (solB (x.2.1 0) a b A (solsF (x.2.1 0) a b (2 ^ a.1.length - 1) mm))).length) (solsF (x.2.1 0) a b (2 ^ a.1.length - 1) mm (A ++ [some p])).length = wC true w ((List.range (p + 1)).flatMap (solB (x.2.1 0) a b A (solsF (x.2.1 0) a b (2 ^ a.1.length - 1) mm))).length := by rw [wC_add, rng_s, List.length_append, hbd]
                rw [ew] at hW
                have hW : pM G (MWl G ad (mfx x (nI (wC true w ((List.range (p + 1)).flatMap (solB (x.2.1 0) a b A (solsF (x.2.1 0) a b (2 ^ a.1.length - 1) mm))).length)) go2 fi2) ++ T) s _ _ := hW
                refine lv_iinc (v := nI (p + 1)) (lv' := [(6, .int (nI (p + 1))), (0, .ref (ad 0)), (1, .ref pa), (2, .ref pb), (3, .int (nI A.length)), (4, .int (nI (mskA A))), (5, .int 1)]) hx hb dX4_put_149 hl (k := 6) rfl (nI_1 _) (by decide) rfl (fun ls hl => ?_)
                refine lv_goto (tgt := 61) hx hb dX4_put_152 (by decide) ?_
                exact W.widen (by omega) (by omega) (ih (p + 1) go2 fi2 H locs ls (by omega) (by omega) (goB r2) (fun j hj => by rw [rng_s]; exact (r3 j hj).trans (by rw [hbd]; exact fiF_app (hfi1 j hj))) hW (lv_sub hl [1, 2, 3, 4, 5, 6, 0] rfl))
              · refine lv_if_eq (tgt := 149) hx hb dX4_put_128 (by decide) (fun c_128 => ?_) (fun c_128 => absurd c_128 (by decide))
                have hbd : solB (x.2.1 0) a b A (solsF (x.2.1 0) a b (2 ^ a.1.length - 1) mm) p = [] := if_pos (Or.inr (Or.inr b_125))
                have ew : (wC true w ((List.range p).flatMap (solB (x.2.1 0) a b A (solsF (x.2.1 0) a b (2 ^ a.1.length - 1) mm))).length) = wC true w ((List.range (p + 1)).flatMap (solB (x.2.1 0) a b A (solsF (x.2.1 0) a b (2 ^ a.1.length - 1) mm))).length := by rw [rng_s, hbd, List.append_nil]
                rw [ew] at hW
                have hW : pM G (MWl G ad (mfx x (nI (wC true w ((List.range (p + 1)).flatMap (solB (x.2.1 0) a b A (solsF (x.2.1 0) a b (2 ^ a.1.length - 1) mm))).length)) (va_up go1 A.length (nI p)) fi1) ++ T) s _ _ := hW
                refine lv_iinc (v := nI (p + 1)) (lv' := [(6, .int (nI (p + 1))), (0, .ref (ad 0)), (1, .ref pa), (2, .ref pb), (3, .int (nI A.length)), (4, .int (nI (mskA A))), (5, .int 1)]) hx hb dX4_put_149 hl (k := 6) rfl (nI_1 _) (by decide) rfl (fun ls hl => ?_)
                refine lv_goto (tgt := 61) hx hb dX4_put_152 (by decide) ?_
                exact W.widen (by omega) (by omega) (ih (p + 1) (va_up go1 A.length (nI p)) fi1 H locs ls (by omega) (by omega) (goB (goA hgo1)) (fun j hj => by rw [rng_s]; exact (hfi1 j hj).trans (by rw [hbd, List.append_nil])) hW (lv_sub hl [1, 2, 3, 4, 5, 6, 0] rfl))
            · refine lv_if_ne (tgt := 113) hx hb dX4_put_107 (by decide) (fun c_107 => absurd c_107 (by decide)) (fun c_107 => ?_)
              have hbd : solB (x.2.1 0) a b A (solsF (x.2.1 0) a b (2 ^ a.1.length - 1) mm) p = [] := if_pos (Or.inr (Or.inl b_104))
              refine lv_goto (tgt := 149) hx hb dX4_put_110 (by decide) ?_
              have ew : (wC true w ((List.range p).flatMap (solB (x.2.1 0) a b A (solsF (x.2.1 0) a b (2 ^ a.1.length - 1) mm))).length) = wC true w ((List.range (p + 1)).flatMap (solB (x.2.1 0) a b A (solsF (x.2.1 0) a b (2 ^ a.1.length - 1) mm))).length := by rw [rng_s, hbd, List.append_nil]
              rw [ew] at hW
              have hW : pM G (MWl G ad (mfx x (nI (wC true w ((List.range (p + 1)).flatMap (solB (x.2.1 0) a b A (solsF (x.2.1 0) a b (2 ^ a.1.length - 1) mm))).length)) go1 fi1) ++ T) s _ _ := hW
              refine lv_iinc (v := nI (p + 1)) (lv' := [(6, .int (nI (p + 1))), (0, .ref (ad 0)), (1, .ref pa), (2, .ref pb), (3, .int (nI A.length)), (4, .int (nI (mskA A))), (5, .int 1)]) hx hb dX4_put_149 hl (k := 6) rfl (nI_1 _) (by decide) rfl (fun ls hl => ?_)
              refine lv_goto (tgt := 61) hx hb dX4_put_152 (by decide) ?_
              exact W.widen (by omega) (by omega) (ih (p + 1) go1 fi1 H locs ls (by omega) (by omega) (hgo1) (fun j hj => by rw [rng_s]; exact (hfi1 j hj).trans (by rw [hbd, List.append_nil])) hW (lv_sub hl [1, 2, 3, 4, 5, 6, 0] rfl))
  exact loop_61 _ 0 go fi _ _ _ (Nat.lt_succ_self _) (Nat.zero_le _) (g1) (fun j _ => (fi_nil w fi j).symm) hW (lv_sub hl [1, 2, 3, 4, 5, 6, 0] rfl)

set_option maxRecDepth 100000 in
set_option maxHeartbeats 16000000 in
theorem mX4_putS_false (l : Launch) (G : pG) (ad : Nat → Nat) (x : XV) (T : va_W) (pa pb : Nat) (a b : Tx) (ha9 : MU G T pa a) (hb9 : MU G T pb b) (nW : Nat) (hwd : WdOk (x.2.1 0) nW) (hW60 : nW ≤ 60) (hoka : TxOk nW 8 10 a) (hokb : TxOk nW 8 10 b) (mm : Nat) (hrec : ∀ (A1 : List (Option Nat)) (w1 : Nat) (go1 fi1 : Nat → Int32), (A1.length + mm = a.1.length) → (∀ i, i < A1.length → go1 i = enc (A1.getD i none)) → (∀ i p, A1.getD i none = some p → p < 8) → (false = true → w1 = 0) → (w1 + (solsF (x.2.1 0) a b (2 ^ a.1.length - 1) mm A1).length < 2147483647) → (AllS A1) → Met l yX4_put (ws_ yX4_put cX4_put 7 none) (rmG mm) (va_Pc [.ref (ad 0), .ref pa, .ref pb, .int (nI A1.length), .int (nI (mskA A1)), .int 2147483647] (fun U => pW G (MWl G ad (mfx x (nI w1) go1 fi1) ++ T) U)) (va_Qv (fun (u : MF) => u.1 = nI (wC false w1 (solsF (x.2.1 0) a b (2 ^ a.1.length - 1) mm A1).length) ∧ (∀ j, j < A1.length → u.2.1 j = enc (A1.getD j none)) ∧ (∀ j, j < a.1.length → u.2.2 j = fiF w1 fi1 (solsF (x.2.1 0) a b (2 ^ a.1.length - 1) mm A1) j)) (fun (u : MF) t9 => pW G (MWl G ad (mfx x u.1 u.2.1 u.2.2) ++ T) t9) (pA G)) 0 0 (pA G)) (A : List (Option Nat)) (w : Nat) (go fi : Nat → Int32) (g0 : A.length + (mm + 1) = a.1.length) (g1 : ∀ i, i < A.length → go i = enc (A.getD i none)) (g2 : ∀ i p, A.getD i none = some p → p < 8) (g3 : false = true → w = 0) (g4 : w + (solsF (x.2.1 0) a b (2 ^ a.1.length - 1) (mm + 1) A).length < 2147483647) (g5 : AllS A) : Met l yX4_put (ws_ yX4_put cX4_put 7 none) (rmG (mm + 1)) (va_Pc [.ref (ad 0), .ref pa, .ref pb, .int (nI A.length), .int (nI (mskA A)), .int 2147483647] (fun U => pW G (MWl G ad (mfx x (nI w) go fi) ++ T) U)) (va_Qv (fun (u : MF) => u.1 = nI (wC false w (solsF (x.2.1 0) a b (2 ^ a.1.length - 1) (mm + 1) A).length) ∧ (∀ j, j < A.length → u.2.1 j = enc (A.getD j none)) ∧ (∀ j, j < a.1.length → u.2.2 j = fiF w fi (solsF (x.2.1 0) a b (2 ^ a.1.length - 1) (mm + 1) A) j)) (fun (u : MF) t9 => pW G (MWl G ad (mfx x u.1 u.2.1 u.2.2) ++ T) t9) (pA G)) 0 0 (pA G) := by
  refine mw (by decide) (Nat.le_of_ble_eq_true rfl) ?_
  intro pp ee R s m below meth c ls Q hF hRt hLk hnm hR hQ hW hl
  have hx := hF.1
  have hb := hF.2.1
  have hts := hF.2.2.2.2
  have hR1 : R.frames = mm + 1 + 5 := by subst hR; rfl
  have hR2 : R.cells = 0 := by subst hR; rfl
  have hR3 : R.slots = 0 := by subst hR; rfl
  have hR4 : R.locals = 60 * (mm + 1) + 200 := by subst hR; rfl
  have hl : lv_has ls 7 [(0, .ref (ad 0)), (1, .ref pa), (2, .ref pb), (3, .int (nI A.length)), (4, .int (nI (mskA A))), (5, .int 2147483647)] := hl
  have hW : pM G (MWl G ad (mfx x (nI w) go fi) ++ T) s s.heap [] := hW
  obtain ⟨ana, awa, afa, ava, ata, nfa, wfa, ffa, vfa, tfa, ha1, ha2, ha3, ha4, ha5, ha6, ha7⟩ := (id ha9)
  obtain ⟨anb, awb, afb, avb, atb, nfb, wfb, ffb, vfb, tfb, hb1, hb2, hb3, hb4, hb5, hb6, hb7⟩ := (id hb9)
  have ha8 := hoka.2.2.1
  have hb8 := hokb.2.2.1
  have hkl : A.length < a.1.length := by omega
  have hm8 := msk_lt g2
  refine lv_iload_n hx hb dX4_put_0 rfl (lv_at hl 3 rfl) ?_
  refine lv_aload_n hx hb dX4_put_1 rfl (lv_at hl 1 rfl) ?_
  refine gtN hF hW (ms_r ha1) (ci := 22) rfl in_X6 0 (by decide) (List.mem_of_getElem? (i := 7) rfl) rfl (v := .int (nI a.1.length)) rfl dX4_put_2 ?_
  refine lv_icmp_ne (tgt := 58) hx hb dX4_put_5 (by decide) (fun c_5 => ?_) (fun c_5 => absurd c_5 (fun z => by have := eq_eq z; omega))
  have eqS : solsF (x.2.1 0) a b (2 ^ a.1.length - 1) (mm + 1) A = (List.range b.1.length).flatMap (solB (x.2.1 0) a b A (solsF (x.2.1 0) a b (2 ^ a.1.length - 1) mm)) := if_pos (all_bit hkl)
  rw [eqS] at g4
  have e0w : nI w = nI (wC false w ((List.range 0).flatMap (solB (x.2.1 0) a b A (solsF (x.2.1 0) a b (2 ^ a.1.length - 1) mm))).length) := by rw [show (List.range 0).flatMap (solB (x.2.1 0) a b A (solsF (x.2.1 0) a b (2 ^ a.1.length - 1) mm)) = [] from rfl, List.length_nil, wC_0]
  rw [e0w] at hW
  refine lv_iconst (v := 0) hx hb dX4_put_58 (by decide) ?_
  refine lv_istore (lv' := [(6, .int 0), (0, .ref (ad 0)), (1, .ref pa), (2, .ref pb), (3, .int (nI A.length)), (4, .int (nI (mskA A))), (5, .int 2147483647)]) hx hb dX4_put_59 hl (by decide) rfl (fun ls hl => ?_)
  have loop_61 : ∀ (nn : Nat) (p : Nat) (go1 : Nat → Int32) (fi1 : Nat → Int32) (H : Heap) (locs : List Loc) (ls : Array Slot), b.1.length - p < nn → (p ≤ b.1.length) → (∀ i, i < A.length → go1 i = enc (A.getD i none)) → (∀ j, j < a.1.length → fi1 j = fiF w fi ((List.range p).flatMap (solB (x.2.1 0) a b A (solsF (x.2.1 0) a b (2 ^ a.1.length - 1) mm))) j) → pM G (MWl G ad (mfx x (nI (wC false w ((List.range p).flatMap (solB (x.2.1 0) a b A (solsF (x.2.1 0) a b (2 ^ a.1.length - 1) mm))).length)) go1 fi1) ++ T) s H locs → lv_has ls 7 [(0, .ref (ad 0)), (1, .ref pa), (2, .ref pb), (3, .int (nI A.length)), (4, .int (nI (mskA A))), (5, .int 2147483647), (6, .int (nI p))] → W pp l ee R s m ([.ref (ad 0), .ref pa, .ref pb, .int (nI A.length), .int (nI (mskA A)), .int 2147483647] : List Value).toArray below meth c H locs 0 0 Q (F0 m 61 ls []) := by
    intro nn
    induction nn with
    | zero => intro p go1 fi1 H locs ls hm; exact absurd hm (Nat.not_lt_zero _)
    | succ nn ih =>
      intro p go1 fi1 H locs ls hm hp hgo1 hfi1 hW hl
      refine lv_iload hx hb dX4_put_61 (lv_at hl 6 rfl) ?_
      refine lv_aload_n hx hb dX4_put_63 rfl (lv_at hl 2 rfl) ?_
      refine gtN hF hW (ms_r hb1) (ci := 22) rfl in_X6 0 (by decide) (List.mem_of_getElem? (i := 7) rfl) rfl (v := .int (nI b.1.length)) rfl dX4_put_64 ?_
      refine lv_icmp_ge (tgt := 155) hx hb dX4_put_67 (by decide) (fun c_67 => ?_) (fun c_67 => ?_)
      · exact re_v hF hRt hLk hQ (by omega) (by omega) dX4_put_155 (nI (wC false w ((List.range p).flatMap (solB (x.2.1 0) a b A (solsF (x.2.1 0) a b (2 ^ a.1.length - 1) mm))).length), go1, fi1) (my_end eqS (Nat.le_antisymm hp (le_le c_67)) hgo1 hfi1) hW
      · have hpl : p < b.1.length := nle_lt c_67
        obtain ⟨rr, hrr⟩ := rng_le (solB (x.2.1 0) a b A (solsF (x.2.1 0) a b (2 ^ a.1.length - 1) mm)) (show p + 1 ≤ b.1.length by omega)
        have hlen := congrArg List.length hrr
        rw [List.length_append, rng_s, List.length_append] at hlen
        refine lv_aload_n hx hb dX4_put_70 rfl (lv_at hl 0 rfl) ?_
        refine gM0_ways hF hW q1136 (v := nI (wC false w ((List.range p).flatMap (solB (x.2.1 0) a b A (solsF (x.2.1 0) a b (2 ^ a.1.length - 1) mm))).length)) (rfl) dX4_put_71 ?_
        refine lv_iload hx hb dX4_put_74 (lv_at hl 5 rfl) ?_
        refine lv_icmp_ge (tgt := 155) hx hb dX4_put_76 (by decide) (fun c_76 => absurd (le_le (a := 2147483647) c_76 (by decide) (by unfold wC; simp only [Bool.false_eq_true, if_false]; omega)) (by unfold wC; simp only [Bool.false_eq_true, if_false]; omega)) (fun c_76 => ?_)
        refine lv_iload hx hb dX4_put_79 (lv_at hl 4 rfl) ?_
        refine lv_iload hx hb dX4_put_81 (lv_at hl 6 rfl) ?_
        refine lv_ishr hx hb dX4_put_83 ?_
        refine lv_iconst (v := 1) hx hb dX4_put_84 (by decide) ?_
        refine lv_iand hx hb dX4_put_85 ?_
        refine lv_iconst (v := 1) hx hb dX4_put_86 (by decide) ?_
        refine lv_icmp_eq (tgt := 149) hx hb dX4_put_87 (by decide) (fun c_87 => ?_) (fun c_87 => ?_)
        · have hin : some p ∈ A := by have := (bit_t (by omega) (by omega)).mp c_87; rw [msk_bit] at this; exact of_decide_eq_true this
          have hbd : solB (x.2.1 0) a b A (solsF (x.2.1 0) a b (2 ^ a.1.length - 1) mm) p = [] := if_pos (Or.inl hin)
          have ew : (wC false w ((List.range p).flatMap (solB (x.2.1 0) a b A (solsF (x.2.1 0) a b (2 ^ a.1.length - 1) mm))).length) = wC false w ((List.range (p + 1)).flatMap (solB (x.2.1 0) a b A (solsF (x.2.1 0) a b (2 ^ a.1.length - 1) mm))).length := by rw [rng_s, hbd, List.append_nil]
          rw [ew] at hW
          have hW : pM G (MWl G ad (mfx x (nI (wC false w ((List.range (p + 1)).flatMap (solB (x.2.1 0) a b A (solsF (x.2.1 0) a b (2 ^ a.1.length - 1) mm))).length)) go1 fi1) ++ T) s _ _ := hW
          refine lv_iinc (v := nI (p + 1)) (lv' := [(6, .int (nI (p + 1))), (0, .ref (ad 0)), (1, .ref pa), (2, .ref pb), (3, .int (nI A.length)), (4, .int (nI (mskA A))), (5, .int 2147483647)]) hx hb dX4_put_149 hl (k := 6) rfl (nI_1 _) (by decide) rfl (fun ls hl => ?_)
          refine lv_goto (tgt := 61) hx hb dX4_put_152 (by decide) ?_
          exact ih (p + 1) go1 fi1 H locs ls (by omega) (by omega) (hgo1) (fun j hj => by rw [rng_s]; exact (hfi1 j hj).trans (by rw [hbd, List.append_nil])) hW (lv_sub hl [1, 2, 3, 4, 5, 6, 0] rfl)
        · have hin : ¬ some p ∈ A := fun z => c_87 ((bit_t (by omega) (by omega)).mpr (by rw [msk_bit]; exact decide_eq_true z))
          refine lv_aload_n hx hb dX4_put_90 rfl (lv_at hl 0 rfl) ?_
          refine lv_aload_n hx hb dX4_put_91 rfl (lv_at hl 2 rfl) ?_
          refine gtN hF hW (ms_r hb1) (ci := 22) rfl in_X6 3 (by decide) (List.mem_of_getElem? (i := 10) rfl) rfl (v := .ref awb) rfl dX4_put_92 ?_
          refine lv_iload hx hb dX4_put_95 (lv_at hl 6 rfl) ?_
          refine al_i hF hW (ms_r hb3) 0 rfl (j := p) (rfl) (by omega) (by decide) dX4_put_97 ?_
          refine lv_eqv (congrArg Value.int (show wfb p = nI (b.2.1.getD p 0) from hb7.1 p hpl)) ?_
          refine lv_aload_n hx hb dX4_put_98 rfl (lv_at hl 1 rfl) ?_
          refine gtN hF hW (ms_r ha1) (ci := 22) rfl in_X6 3 (by decide) (List.mem_of_getElem? (i := 10) rfl) rfl (v := .ref awa) rfl dX4_put_99 ?_
          refine lv_iload_n hx hb dX4_put_102 rfl (lv_at hl 3 rfl) ?_
          refine al_i hF hW (ms_r ha3) 0 rfl (j := A.length) (rfl) (by omega) (by decide) dX4_put_103 ?_
          refine lv_eqv (congrArg Value.int (show wfa A.length = nI (a.2.1.getD A.length 0) from ha7.1 A.length hkl)) ?_
          have hwb : b.2.1.getD p 0 < nW := hokb.2.2.2.2.1 _ (getD_mem (by rw [hokb.2.1]; exact hpl))
          have hwa : a.2.1.getD A.length 0 < nW := hoka.2.2.2.2.1 _ (getD_mem (by rw [hoka.2.1]; exact hkl))
          refine cl_i (ru_V (As := [.int (nI (b.2.1.getD p 0)), .int (nI (a.2.1.getD A.length 0))]) (rest := []) hF (mX4_isUnder l G ad (mfx x (nI (wC false w ((List.range p).flatMap (solB (x.2.1 0) a b A (solsF (x.2.1 0) a b (2 ^ a.1.length - 1) mm))).length)) go1 fi1) T (b.2.1.getD p 0) (a.2.1.getD A.length 0) nW hwd hW60 hwb (by omega)) (cwV 2 hts (lw_V q1299 q1301 qs38 q66 q1302) rfl rfl rfl (by decide +kernel) ⟨by rw [hR1]; dsimp only [rmG]; omega, by rw [hR4]; dsimp only [rmG]; omega⟩) hW (List.mem_of_getElem? (i := 0) rfl) (ci := 20) rfl rfl rfl hl.1 rfl (lv_room (Nat.le_of_ble_eq_true rfl)) dX4_put_104 ⟨by omega, by omega⟩) hW (fun r_1 u_2 H locs h_3 hW => ?_)
          have hW : pM G (MWl G ad (mfx x (nI (wC false w ((List.range p).flatMap (solB (x.2.1 0) a b A (solsF (x.2.1 0) a b (2 ^ a.1.length - 1) mm))).length)) go1 fi1) ++ T) s _ _ := hW
          rcases h_3 with ⟨rfl, b_104⟩ | ⟨rfl, b_104⟩
          · refine lv_if_ne (tgt := 113) hx hb dX4_put_107 (by decide) (fun c_107 => ?_) (fun c_107 => absurd c_107 (by decide))
            refine lv_aload_n hx hb dX4_put_113 rfl (lv_at hl 0 rfl) ?_
            refine gM0_goes hF hW q1134 dX4_put_114 ?_
            refine lv_iload_n hx hb dX4_put_117 rfl (lv_at hl 3 rfl) ?_
            refine lv_iload hx hb dX4_put_118 (lv_at hl 6 rfl) ?_
            refine sM22 hF hW (j := A.length) (rfl) (by omega) dX4_put_120 (fun H locs hW => ?_)
            have hW : pM G (MWl G ad (xa (mfx x (nI (wC false w ((List.range p).flatMap (solB (x.2.1 0) a b A (solsF (x.2.1 0) a b (2 ^ a.1.length - 1) mm))).length)) go1 fi1) 14 (va_up ((mfx x (nI (wC false w ((List.range p).flatMap (solB (x.2.1 0) a b A (solsF (x.2.1 0) a b (2 ^ a.1.length - 1) mm))).length)) go1 fi1).2.1 14) A.length (nI p))) ++ T) s _ _ := hW
            have hW : pM G (MWl G ad (mfx x (nI (wC false w ((List.range p).flatMap (solB (x.2.1 0) a b A (solsF (x.2.1 0) a b (2 ^ a.1.length - 1) mm))).length)) (va_up go1 A.length (nI p)) fi1) ++ T) s _ _ := hW
            refine lv_aload_n hx hb dX4_put_121 rfl (lv_at hl 0 rfl) ?_
            refine lv_aload_n hx hb dX4_put_122 rfl (lv_at hl 1 rfl) ?_
            refine lv_aload_n hx hb dX4_put_123 rfl (lv_at hl 2 rfl) ?_
            refine lv_iload_n hx hb dX4_put_124 rfl (lv_at hl 3 rfl) ?_
            refine cl_i (ru_V (As := [.ref pa, .ref pb, .int (nI A.length)]) (rest := []) hF (mX4_isLinked l G ad (mfx x (nI (wC false w ((List.range p).flatMap (solB (x.2.1 0) a b A (solsF (x.2.1 0) a b (2 ^ a.1.length - 1) mm))).length)) (va_up go1 A.length (nI p)) fi1) T pa pb a b ha9 hb9 nW hwd hW60 hoka hokb (A ++ [some p]) (goA hgo1) g5.app (A8 g2 (by omega)) A.length (by omega) (by rw [List.length_append]; rfl)) (cwV 3 hts (lw_V q1374 q1376 qs49 q66 q1377) rfl rfl rfl (by decide +kernel) ⟨by rw [hR1]; dsimp only [rmG]; omega, by rw [hR4]; dsimp only [rmG]; omega⟩) hW (List.mem_of_getElem? (i := 0) rfl) (ci := 20) rfl rfl rfl hl.1 rfl (lv_room (Nat.le_of_ble_eq_true rfl)) dX4_put_125 ⟨by omega, by omega⟩) hW (fun r_4 u_5 H locs h_6 hW => ?_)
            have hW : pM G (MWl G ad (mfx x (nI (wC false w ((List.range p).flatMap (solB (x.2.1 0) a b A (solsF (x.2.1 0) a b (2 ^ a.1.length - 1) mm))).length)) (va_up go1 A.length (nI p)) fi1) ++ T) s _ _ := hW
            rcases h_6 with ⟨rfl, b_125⟩ | ⟨rfl, b_125⟩
            · refine lv_if_eq (tgt := 149) hx hb dX4_put_128 (by decide) (fun c_128 => absurd c_128 (by decide)) (fun c_128 => ?_)
              refine lv_aload_n hx hb dX4_put_131 rfl (lv_at hl 0 rfl) ?_
              refine lv_aload_n hx hb dX4_put_132 rfl (lv_at hl 1 rfl) ?_
              refine lv_aload_n hx hb dX4_put_133 rfl (lv_at hl 2 rfl) ?_
              refine lv_iload_n hx hb dX4_put_134 rfl (lv_at hl 3 rfl) ?_
              refine lv_iconst (v := 1) hx hb dX4_put_135 (by decide) ?_
              refine lv_iadd hx hb dX4_put_136 ?_
              refine lv_eqi (show (nI A.length) + 1 = nI (A ++ [some p]).length from (nI_1 _).trans (by rw [List.length_append]; rfl)) ?_
              refine lv_iload hx hb dX4_put_137 (lv_at hl 4 rfl) ?_
              refine lv_iconst (v := 1) hx hb dX4_put_139 (by decide) ?_
              refine lv_iload hx hb dX4_put_140 (lv_at hl 6 rfl) ?_
              refine lv_ishl hx hb dX4_put_142 ?_
              refine lv_eqi (show 1 <<< ((nI p) &&& 31) = nI (2 ^ p) from one_shl p (by omega)) ?_
              refine lv_ior hx hb dX4_put_143 ?_
              refine lv_eqi (show (nI (mskA A)) ||| (nI (2 ^ p)) = nI (mskA (A ++ [some p])) from (nI_or _ _).trans (by rw [msk_app])) ?_
              refine lv_iload hx hb dX4_put_144 (lv_at hl 5 rfl) ?_
              have hbd : solB (x.2.1 0) a b A (solsF (x.2.1 0) a b (2 ^ a.1.length - 1) mm) p = solsF (x.2.1 0) a b (2 ^ a.1.length - 1) mm (A ++ [some p]) := sol_yes hin b_104 b_125
              have eL : A.length + 1 = (A ++ [some p]).length := by rw [List.length_append]; rfl
              refine cl_v (ru_V (mc := 0) (ms := 0) (As := [.ref pa, .ref pb, .int (nI (A ++ [some p]).length), .int (nI (mskA (A ++ [some p]))), .int 2147483647]) (rest := []) hF (hrec (A ++ [some p]) (wC false w ((List.range p).flatMap (solB (x.2.1 0) a b A (solsF (x.2.1 0) a b (2 ^ a.1.length - 1) mm))).length) (va_up go1 A.length (nI p)) fi1 (by rw [← eL]; omega) (goA hgo1) (A8 g2 (by omega)) (fun z => nomatch z) (by rw [← hbd]; unfold wC; simp only [if_true, if_false, Bool.false_eq_true]; omega) g5.app) (cwV 5 hts (lw_V q1370 q1372 qs48 q66 q1373) rfl rfl rfl (by decide +kernel) ⟨by rw [hR1]; dsimp only [rmG]; omega, by rw [hR4]; dsimp only [rmG]; omega⟩) hW (List.mem_of_getElem? (i := 0) rfl) (ci := 20) rfl rfl rfl hl.1 rfl (lv_room (Nat.le_of_ble_eq_true rfl)) dX4_put_146 ⟨by omega, by omega⟩) hW (fun u_ H locs h_ hW => ?_)
              obtain ⟨w2, go2, fi2⟩ := u_
              obtain ⟨r1, r2, r3⟩ := h_
              have r1 : w2 = _ := r1
              subst r1
              have hW : pM G (MWl G ad (mfx x (nI (wC false (wC false w ((List.range p).flatMap (solB (x.2.1 0) a b A (solsF (x.2.1 0) a b (2 ^ a.1.length - 1) mm))).length) (solsF (x.2.1 0) a b (2 ^ a.1.length - 1) mm (A ++ [some p])).length)) go2 fi2) ++ T) s _ _ := hW
              have ew : wC false (wC false w ((List.range p).flatMap (solB (x.2.1 0) a b A (solsF (x.2.1 0) a b (2 ^ a.1.length - 1) mm))).length) (solsF (x.2.1 0) a b (2 ^ a.1.length - 1) mm (A ++ [some p])).length = wC false w ((List.range (p + 1)).flatMap (solB (x.2.1 0) a b A (solsF (x.2.1 0) a b (2 ^ a.1.length - 1) mm))).length := by rw [wC_add, rng_s, List.length_append, hbd]
              rw [ew] at hW
              have hW : pM G (MWl G ad (mfx x (nI (wC false w ((List.range (p + 1)).flatMap (solB (x.2.1 0) a b A (solsF (x.2.1 0) a b (2 ^ a.1.length - 1) mm))).length)) go2 fi2) ++ T) s _ _ := hW
              refine lv_iinc (v := nI (p + 1)) (lv' := [(6, .int (nI (p + 1))), (0, .ref (ad 0)), (1, .ref pa), (2, .ref pb), (3, .int (nI A.length)), (4, .int (nI (mskA A))), (5, .int 2147483647)]) hx hb dX4_put_149 hl (k := 6) rfl (nI_1 _) (by decide) rfl (fun ls hl => ?_)
              refine lv_goto (tgt := 61) hx hb dX4_put_152 (by decide) ?_
              exact W.widen (by omega) (by omega) (ih (p + 1) go2 fi2 H locs ls (by omega) (by omega) (goB r2) (fun j hj => by rw [rng_s]; exact (r3 j hj).trans (by rw [hbd]; exact fiF_app (hfi1 j hj))) hW (lv_sub hl [1, 2, 3, 4, 5, 6, 0] rfl))
            · refine lv_if_eq (tgt := 149) hx hb dX4_put_128 (by decide) (fun c_128 => ?_) (fun c_128 => absurd c_128 (by decide))
              have hbd : solB (x.2.1 0) a b A (solsF (x.2.1 0) a b (2 ^ a.1.length - 1) mm) p = [] := if_pos (Or.inr (Or.inr b_125))
              have ew : (wC false w ((List.range p).flatMap (solB (x.2.1 0) a b A (solsF (x.2.1 0) a b (2 ^ a.1.length - 1) mm))).length) = wC false w ((List.range (p + 1)).flatMap (solB (x.2.1 0) a b A (solsF (x.2.1 0) a b (2 ^ a.1.length - 1) mm))).length := by rw [rng_s, hbd, List.append_nil]
              rw [ew] at hW
              have hW : pM G (MWl G ad (mfx x (nI (wC false w ((List.range (p + 1)).flatMap (solB (x.2.1 0) a b A (solsF (x.2.1 0) a b (2 ^ a.1.length - 1) mm))).length)) (va_up go1 A.length (nI p)) fi1) ++ T) s _ _ := hW
              refine lv_iinc (v := nI (p + 1)) (lv' := [(6, .int (nI (p + 1))), (0, .ref (ad 0)), (1, .ref pa), (2, .ref pb), (3, .int (nI A.length)), (4, .int (nI (mskA A))), (5, .int 2147483647)]) hx hb dX4_put_149 hl (k := 6) rfl (nI_1 _) (by decide) rfl (fun ls hl => ?_)
              refine lv_goto (tgt := 61) hx hb dX4_put_152 (by decide) ?_
              exact W.widen (by omega) (by omega) (ih (p + 1) (va_up go1 A.length (nI p)) fi1 H locs ls (by omega) (by omega) (goB (goA hgo1)) (fun j hj => by rw [rng_s]; exact (hfi1 j hj).trans (by rw [hbd, List.append_nil])) hW (lv_sub hl [1, 2, 3, 4, 5, 6, 0] rfl))
          · refine lv_if_ne (tgt := 113) hx hb dX4_put_107 (by decide) (fun c_107 => absurd c_107 (by decide)) (fun c_107 => ?_)
            have hbd : solB (x.2.1 0) a b A (solsF (x.2.1 0) a b (2 ^ a.1.length - 1) mm) p = [] := if_pos (Or.inr (Or.inl b_104))
            refine lv_goto (tgt := 149) hx hb dX4_put_110 (by decide) ?_
            have ew : (wC false w ((List.range p).flatMap (solB (x.2.1 0) a b A (solsF (x.2.1 0) a b (2 ^ a.1.length - 1) mm))).length) = wC false w ((List.range (p + 1)).flatMap (solB (x.2.1 0) a b A (solsF (x.2.1 0) a b (2 ^ a.1.length - 1) mm))).length := by rw [rng_s, hbd, List.append_nil]
            rw [ew] at hW
            have hW : pM G (MWl G ad (mfx x (nI (wC false w ((List.range (p + 1)).flatMap (solB (x.2.1 0) a b A (solsF (x.2.1 0) a b (2 ^ a.1.length - 1) mm))).length)) go1 fi1) ++ T) s _ _ := hW
            refine lv_iinc (v := nI (p + 1)) (lv' := [(6, .int (nI (p + 1))), (0, .ref (ad 0)), (1, .ref pa), (2, .ref pb), (3, .int (nI A.length)), (4, .int (nI (mskA A))), (5, .int 2147483647)]) hx hb dX4_put_149 hl (k := 6) rfl (nI_1 _) (by decide) rfl (fun ls hl => ?_)
            refine lv_goto (tgt := 61) hx hb dX4_put_152 (by decide) ?_
            exact W.widen (by omega) (by omega) (ih (p + 1) go1 fi1 H locs ls (by omega) (by omega) (hgo1) (fun j hj => by rw [rng_s]; exact (hfi1 j hj).trans (by rw [hbd, List.append_nil])) hW (lv_sub hl [1, 2, 3, 4, 5, 6, 0] rfl))
  exact loop_61 _ 0 go fi _ _ _ (Nat.lt_succ_self _) (Nat.zero_le _) (g1) (fun j _ => (fi_nil w fi j).symm) hW (lv_sub hl [1, 2, 3, 4, 5, 6, 0] rfl)

theorem mX4_put_true (l : Launch) (G : pG) (ad : Nat → Nat) (x : XV) (T : va_W) (pa pb : Nat) (a b : Tx) (ha9 : MU G T pa a) (hb9 : MU G T pb b) (nW : Nat) (hwd : WdOk (x.2.1 0) nW) (hW60 : nW ≤ 60) (hoka : TxOk nW 8 10 a) (hokb : TxOk nW 8 10 b) : ∀ (mm : Nat) (A : List (Option Nat)) (w : Nat) (go fi : Nat → Int32), (A.length + mm = a.1.length) → (∀ i, i < A.length → go i = enc (A.getD i none)) → (∀ i p, A.getD i none = some p → p < 8) → (true = true → w = 0) → (w + (solsF (x.2.1 0) a b (2 ^ a.1.length - 1) mm A).length < 2147483647) → (AllS A) → Met l yX4_put (ws_ yX4_put cX4_put 7 none) (rmG mm) (va_Pc [.ref (ad 0), .ref pa, .ref pb, .int (nI A.length), .int (nI (mskA A)), .int 1] (fun U => pW G (MWl G ad (mfx x (nI w) go fi) ++ T) U)) (va_Qv (fun (u : MF) => u.1 = nI (wC true w (solsF (x.2.1 0) a b (2 ^ a.1.length - 1) mm A).length) ∧ (∀ j, j < A.length → u.2.1 j = enc (A.getD j none)) ∧ (∀ j, j < a.1.length → u.2.2 j = fiF w fi (solsF (x.2.1 0) a b (2 ^ a.1.length - 1) mm A) j)) (fun (u : MF) t9 => pW G (MWl G ad (mfx x u.1 u.2.1 u.2.2) ++ T) t9) (pA G)) 0 0 (pA G) := by
  intro mm
  induction mm with
  | zero => intro A w go fi g0 g1 g2 g3 g4 g5; exact mX4_put0_true l G ad x T pa pb a b ha9 hb9 nW hwd hW60 hoka hokb A w go fi g0 g1 g2 g3 g4 g5
  | succ mm ih => intro A w go fi g0 g1 g2 g3 g4 g5; exact mX4_putS_true l G ad x T pa pb a b ha9 hb9 nW hwd hW60 hoka hokb mm ih A w go fi g0 g1 g2 g3 g4 g5
set_option maxRecDepth 100000 in
set_option maxHeartbeats 16000000 in
theorem mX4_waysOf_true (l : Launch) (G : pG) (ad : Nat → Nat) (x : XV) (T : va_W) (w0 : Int32) (go0 fi0 : Nat → Int32) (pa pb : Nat) (a b : Tx) (ha9 : MU G T pa a) (hb9 : MU G T pb b) (nW : Nat) (hwd : WdOk (x.2.1 0) nW) (hW60 : nW ≤ 60) (hoka : TxOk nW 8 10 a) (hokb : TxOk nW 8 10 b) : Met l yX4_waysOf (ws_ yX4_waysOf cX4_waysOf 4 (some .int)) ({ frames := 20, cells := 0, slots := 0, locals := 1000 } : Room) (va_Pc [.ref (ad 0), .ref pa, .ref pb, .int 1] (fun U => pW G (MWl G ad (mfx x w0 go0 fi0) ++ T) U)) (va_Qi (fun r (u : MF) => r = nI (wC true 0 (solsF (x.2.1 0) a b (2 ^ a.1.length - 1) a.1.length ([])).length) ∧ (∀ j, j < a.1.length → u.2.2 j = fiF 0 fi0 (solsF (x.2.1 0) a b (2 ^ a.1.length - 1) a.1.length ([])) j)) (fun (u : MF) t9 => pW G (MWl G ad (mfx x u.1 u.2.1 u.2.2) ++ T) t9) (pA G)) 0 0 (pA G) := by
  refine mw (by decide) (Nat.le_of_ble_eq_true rfl) ?_
  intro pp ee R s m below meth c ls Q hF hRt hLk hnm hR hQ hW hl
  have hx := hF.1
  have hb := hF.2.1
  have hts := hF.2.2.2.2
  have hR1 : R.frames = 20 := by subst hR; rfl
  have hR2 : R.cells = 0 := by subst hR; rfl
  have hR3 : R.slots = 0 := by subst hR; rfl
  have hR4 : R.locals = 1000 := by subst hR; rfl
  have hl : lv_has ls 4 [(0, .ref (ad 0)), (1, .ref pa), (2, .ref pb), (3, .int 1)] := hl
  have hW : pM G (MWl G ad (mfx x w0 go0 fi0) ++ T) s s.heap [] := hW
  refine lv_aload_n hx hb dX4_waysOf_0 rfl (lv_at hl 0 rfl) ?_
  refine lv_iconst (v := 0) hx hb dX4_waysOf_1 (by decide) ?_
  refine pM0_ways hF hW q1136 dX4_waysOf_2 (fun H locs hW => ?_)
  have hW : pM G (MWl G ad (xi (mfx x w0 go0 fi0) 17 0) ++ T) s _ _ := hW
  refine lv_aload_n hx hb dX4_waysOf_5 rfl (lv_at hl 0 rfl) ?_
  refine lv_aload_n hx hb dX4_waysOf_6 rfl (lv_at hl 1 rfl) ?_
  refine lv_aload_n hx hb dX4_waysOf_7 rfl (lv_at hl 2 rfl) ?_
  refine lv_iconst (v := 0) hx hb dX4_waysOf_8 (by decide) ?_
  refine lv_iconst (v := 0) hx hb dX4_waysOf_9 (by decide) ?_
  refine lv_iload_n hx hb dX4_waysOf_10 rfl (lv_at hl 3 rfl) ?_
  have hla := hoka.2.2.1
  have hlb := hokb.2.2.1
  have hsl : (solsF (x.2.1 0) a b (2 ^ a.1.length - 1) a.1.length ([])).length ≤ 16777216 := sols_lt hlb (by omega)
  have hW : pM G (MWl G ad (mfx x (nI 0) go0 fi0) ++ T) s _ _ := hW
  refine cl_v (ru_V (mc := 0) (ms := 0) (As := [.ref pa, .ref pb, .int 0, .int 0, .int 1]) (rest := []) hF (mX4_put_true l G ad x T pa pb a b ha9 hb9 nW hwd hW60 hoka hokb a.1.length [] 0 go0 fi0 (Nat.zero_add _) (fun i h => absurd h (Nat.not_lt_zero _)) (fun i p h => by cases i <;> cases h) (fun _ => rfl) (by have := hsl; show 0 + (solsF (x.2.1 0) a b (2 ^ a.1.length - 1) a.1.length ([])).length < 2147483647; omega) (fun i h => absurd h (Nat.not_lt_zero _))) (cwV 5 hts (lw_V q1370 q1372 qs48 q66 q1373) rfl rfl rfl (by decide +kernel) ⟨by rw [hR1]; dsimp only [rmG]; omega, by rw [hR4]; dsimp only [rmG]; omega⟩) hW (List.mem_of_getElem? (i := 0) rfl) (ci := 20) rfl rfl rfl hl.1 rfl (lv_room (Nat.le_of_ble_eq_true rfl)) dX4_waysOf_11 ⟨by omega, by omega⟩) hW (fun u_ H locs h_ hW => ?_)
  obtain ⟨w2, go2, fi2⟩ := u_
  obtain ⟨r1, r2, r3⟩ := h_
  have r1 : w2 = nI (wC true 0 (solsF (x.2.1 0) a b (2 ^ a.1.length - 1) a.1.length ([])).length) := r1
  have hW : pM G (MWl G ad (mfx x w2 go2 fi2) ++ T) s _ _ := hW
  refine lv_aload_n hx hb dX4_waysOf_14 rfl (lv_at hl 0 rfl) ?_
  refine gM0_ways hF hW q1136 (v := w2) (rfl) dX4_waysOf_15 ?_
  exact re_i hF hRt hLk hQ (by omega) (by omega) dX4_waysOf_18 (w2, go2, fi2) (⟨r1, r3⟩) hW

theorem mX4_put_false (l : Launch) (G : pG) (ad : Nat → Nat) (x : XV) (T : va_W) (pa pb : Nat) (a b : Tx) (ha9 : MU G T pa a) (hb9 : MU G T pb b) (nW : Nat) (hwd : WdOk (x.2.1 0) nW) (hW60 : nW ≤ 60) (hoka : TxOk nW 8 10 a) (hokb : TxOk nW 8 10 b) : ∀ (mm : Nat) (A : List (Option Nat)) (w : Nat) (go fi : Nat → Int32), (A.length + mm = a.1.length) → (∀ i, i < A.length → go i = enc (A.getD i none)) → (∀ i p, A.getD i none = some p → p < 8) → (false = true → w = 0) → (w + (solsF (x.2.1 0) a b (2 ^ a.1.length - 1) mm A).length < 2147483647) → (AllS A) → Met l yX4_put (ws_ yX4_put cX4_put 7 none) (rmG mm) (va_Pc [.ref (ad 0), .ref pa, .ref pb, .int (nI A.length), .int (nI (mskA A)), .int 2147483647] (fun U => pW G (MWl G ad (mfx x (nI w) go fi) ++ T) U)) (va_Qv (fun (u : MF) => u.1 = nI (wC false w (solsF (x.2.1 0) a b (2 ^ a.1.length - 1) mm A).length) ∧ (∀ j, j < A.length → u.2.1 j = enc (A.getD j none)) ∧ (∀ j, j < a.1.length → u.2.2 j = fiF w fi (solsF (x.2.1 0) a b (2 ^ a.1.length - 1) mm A) j)) (fun (u : MF) t9 => pW G (MWl G ad (mfx x u.1 u.2.1 u.2.2) ++ T) t9) (pA G)) 0 0 (pA G) := by
  intro mm
  induction mm with
  | zero => intro A w go fi g0 g1 g2 g3 g4 g5; exact mX4_put0_false l G ad x T pa pb a b ha9 hb9 nW hwd hW60 hoka hokb A w go fi g0 g1 g2 g3 g4 g5
  | succ mm ih => intro A w go fi g0 g1 g2 g3 g4 g5; exact mX4_putS_false l G ad x T pa pb a b ha9 hb9 nW hwd hW60 hoka hokb mm ih A w go fi g0 g1 g2 g3 g4 g5
set_option maxRecDepth 100000 in
set_option maxHeartbeats 16000000 in
theorem mX4_waysOf_false (l : Launch) (G : pG) (ad : Nat → Nat) (x : XV) (T : va_W) (w0 : Int32) (go0 fi0 : Nat → Int32) (pa pb : Nat) (a b : Tx) (ha9 : MU G T pa a) (hb9 : MU G T pb b) (nW : Nat) (hwd : WdOk (x.2.1 0) nW) (hW60 : nW ≤ 60) (hoka : TxOk nW 8 10 a) (hokb : TxOk nW 8 10 b) : Met l yX4_waysOf (ws_ yX4_waysOf cX4_waysOf 4 (some .int)) ({ frames := 20, cells := 0, slots := 0, locals := 1000 } : Room) (va_Pc [.ref (ad 0), .ref pa, .ref pb, .int 2147483647] (fun U => pW G (MWl G ad (mfx x w0 go0 fi0) ++ T) U)) (va_Qi (fun r (u : MF) => r = nI (wC false 0 (solsF (x.2.1 0) a b (2 ^ a.1.length - 1) a.1.length ([])).length) ∧ (∀ j, j < a.1.length → u.2.2 j = fiF 0 fi0 (solsF (x.2.1 0) a b (2 ^ a.1.length - 1) a.1.length ([])) j)) (fun (u : MF) t9 => pW G (MWl G ad (mfx x u.1 u.2.1 u.2.2) ++ T) t9) (pA G)) 0 0 (pA G) := by
  refine mw (by decide) (Nat.le_of_ble_eq_true rfl) ?_
  intro pp ee R s m below meth c ls Q hF hRt hLk hnm hR hQ hW hl
  have hx := hF.1
  have hb := hF.2.1
  have hts := hF.2.2.2.2
  have hR1 : R.frames = 20 := by subst hR; rfl
  have hR2 : R.cells = 0 := by subst hR; rfl
  have hR3 : R.slots = 0 := by subst hR; rfl
  have hR4 : R.locals = 1000 := by subst hR; rfl
  have hl : lv_has ls 4 [(0, .ref (ad 0)), (1, .ref pa), (2, .ref pb), (3, .int 2147483647)] := hl
  have hW : pM G (MWl G ad (mfx x w0 go0 fi0) ++ T) s s.heap [] := hW
  refine lv_aload_n hx hb dX4_waysOf_0 rfl (lv_at hl 0 rfl) ?_
  refine lv_iconst (v := 0) hx hb dX4_waysOf_1 (by decide) ?_
  refine pM0_ways hF hW q1136 dX4_waysOf_2 (fun H locs hW => ?_)
  have hW : pM G (MWl G ad (xi (mfx x w0 go0 fi0) 17 0) ++ T) s _ _ := hW
  refine lv_aload_n hx hb dX4_waysOf_5 rfl (lv_at hl 0 rfl) ?_
  refine lv_aload_n hx hb dX4_waysOf_6 rfl (lv_at hl 1 rfl) ?_
  refine lv_aload_n hx hb dX4_waysOf_7 rfl (lv_at hl 2 rfl) ?_
  refine lv_iconst (v := 0) hx hb dX4_waysOf_8 (by decide) ?_
  refine lv_iconst (v := 0) hx hb dX4_waysOf_9 (by decide) ?_
  refine lv_iload_n hx hb dX4_waysOf_10 rfl (lv_at hl 3 rfl) ?_
  have hla := hoka.2.2.1
  have hlb := hokb.2.2.1
  have hsl : (solsF (x.2.1 0) a b (2 ^ a.1.length - 1) a.1.length ([])).length ≤ 16777216 := sols_lt hlb (by omega)
  have hW : pM G (MWl G ad (mfx x (nI 0) go0 fi0) ++ T) s _ _ := hW
  refine cl_v (ru_V (mc := 0) (ms := 0) (As := [.ref pa, .ref pb, .int 0, .int 0, .int 2147483647]) (rest := []) hF (mX4_put_false l G ad x T pa pb a b ha9 hb9 nW hwd hW60 hoka hokb a.1.length [] 0 go0 fi0 (Nat.zero_add _) (fun i h => absurd h (Nat.not_lt_zero _)) (fun i p h => by cases i <;> cases h) (fun _ => rfl) (by have := hsl; show 0 + (solsF (x.2.1 0) a b (2 ^ a.1.length - 1) a.1.length ([])).length < 2147483647; omega) (fun i h => absurd h (Nat.not_lt_zero _))) (cwV 5 hts (lw_V q1370 q1372 qs48 q66 q1373) rfl rfl rfl (by decide +kernel) ⟨by rw [hR1]; dsimp only [rmG]; omega, by rw [hR4]; dsimp only [rmG]; omega⟩) hW (List.mem_of_getElem? (i := 0) rfl) (ci := 20) rfl rfl rfl hl.1 rfl (lv_room (Nat.le_of_ble_eq_true rfl)) dX4_waysOf_11 ⟨by omega, by omega⟩) hW (fun u_ H locs h_ hW => ?_)
  obtain ⟨w2, go2, fi2⟩ := u_
  obtain ⟨r1, r2, r3⟩ := h_
  have r1 : w2 = nI (wC false 0 (solsF (x.2.1 0) a b (2 ^ a.1.length - 1) a.1.length ([])).length) := r1
  have hW : pM G (MWl G ad (mfx x w2 go2 fi2) ++ T) s _ _ := hW
  refine lv_aload_n hx hb dX4_waysOf_14 rfl (lv_at hl 0 rfl) ?_
  refine gM0_ways hF hW q1136 (v := w2) (rfl) dX4_waysOf_15 ?_
  exact re_i hF hRt hLk hQ (by omega) (by omega) dX4_waysOf_18 (w2, go2, fi2) (⟨r1, r3⟩) hW

set_option maxRecDepth 100000 in
set_option maxHeartbeats 4000000 in
theorem mX4_discloses (l : Launch) (G : pG) (ad : Nat → Nat) (x : XV) (T : va_W) (w0 : Int32) (go0 fi0 : Nat → Int32) (pa pb : Nat) (a b : Tx) (ha9 : MU G T pa a) (hb9 : MU G T pb b) (nW : Nat) (hwd : WdOk (x.2.1 0) nW) (hW60 : nW ≤ 60) (hoka : TxOk nW 8 10 a) (hokb : TxOk nW 8 10 b) : Met l yX4_discloses (ws_ yX4_discloses cX4_discloses 3 (some .boolean)) ({ frames := 21, cells := 0, slots := 0, locals := 1023 } : Room) (va_Pc [.ref (ad 0), .ref pb, .ref pa] (fun U => pW G (MWl G ad (mfx x w0 go0 fi0) ++ T) U)) (va_Qi (fun r (u : MF) => (r = 1 ∧ disB (x.2.1 0) a b (2 ^ a.1.length - 1) = true) ∨ (r = 0 ∧ disB (x.2.1 0) a b (2 ^ a.1.length - 1) = false)) (fun (u : MF) t9 => pW G (MWl G ad (mfx x u.1 u.2.1 u.2.2) ++ T) t9) (pA G)) 0 0 (pA G) := by
  refine mw (by decide) (Nat.le_of_ble_eq_true rfl) ?_
  intro pp ee R s m below meth c ls Q hF hRt hLk hnm hR hQ hW hl
  have hx := hF.1
  have hb := hF.2.1
  have hts := hF.2.2.2.2
  have hR1 : R.frames = 21 := by rw [hR]
  have hR2 : R.cells = 0 := by rw [hR]
  have hR3 : R.slots = 0 := by rw [hR]
  have hR4 : R.locals = 1023 := by rw [hR]
  have hl : lv_has ls 3 [(0, .ref (ad 0)), (1, .ref pb), (2, .ref pa)] := hl
  have hW : pM G (MWl G ad (mfx x w0 go0 fi0) ++ T) s s.heap [] := hW
  refine lv_aload_n hx hb dX4_discloses_0 rfl (lv_at hl 0 rfl) ?_
  refine lv_aload_n hx hb dX4_discloses_1 rfl (lv_at hl 2 rfl) ?_
  refine lv_aload_n hx hb dX4_discloses_2 rfl (lv_at hl 1 rfl) ?_
  refine lv_iconst (v := 1) hx hb dX4_discloses_3 (by decide) ?_
  refine cl_i (ru_V (As := [.ref pa, .ref pb, .int 1]) (rest := []) hF (mX4_waysOf_true l G ad x T w0 go0 fi0 pa pb a b ha9 hb9 nW hwd hW60 hoka hokb) (cwV 3 hts (lw_V q1366 q1368 qs47 q66 q1369) rfl rfl rfl (by decide +kernel) ⟨lb hR1 rfl, lb hR4 rfl⟩) hW (List.mem_of_getElem? (i := 0) rfl) (ci := 20) rfl rfl rfl hl.1 rfl (lv_room (Nat.le_of_ble_eq_true rfl)) dX4_discloses_4 ⟨by omega, by omega⟩) hW (fun r_ u_ H locs h_ hW => ?_)
  obtain ⟨r1, r2⟩ := h_
  rw [wC1] at r1
  subst r1
  have hW : pM G (MWl G ad (mfx x u_.1 u_.2.1 u_.2.2) ++ T) s _ _ := hW
  refine lv_if_le (tgt := 14) hx hb dX4_discloses_7 (by decide) (fun c_7 => ?_) (fun c_7 => ?_)
  · have hz : ¬ 0 < (solsF (x.2.1 0) a b (2 ^ a.1.length - 1) a.1.length ([])).length := fun z => by have := le_le (b := 0) c_7 (by omega) (by decide); omega
    refine lv_iconst (v := 0) hx hb dX4_discloses_14 (by decide) ?_
    exact re_z hF hRt hLk hQ (by omega) (by omega) (by decide) dX4_discloses_15 u_ (Or.inr ⟨rfl, decide_eq_false hz⟩) hW
  · have hz : 0 < (solsF (x.2.1 0) a b (2 ^ a.1.length - 1) a.1.length ([])).length := by have : ¬ min 1 (solsF (x.2.1 0) a b (2 ^ a.1.length - 1) a.1.length ([])).length = 0 := (fun z => c_7 (by rw [z]; decide)); omega
    refine lv_iconst (v := 1) hx hb dX4_discloses_10 (by decide) ?_
    refine lv_goto (tgt := 15) hx hb dX4_discloses_11 (by decide) ?_
    exact re_z hF hRt hLk hQ (by omega) (by omega) (by decide) dX4_discloses_15 u_ (Or.inl ⟨rfl, decide_eq_true hz⟩) hW
