/-! one word alone; words under words -/
def und (wd : Nat → Int32) (o : Nat) : Nat → Nat → Bool
  | 0, w => decide (w = o)
  | g + 1, w => if w = o then true else if wd w = -1 then false else und wd o g (wd w).toNatClampNeg
def underB (wd : Nat → Int32) (w o : Nat) : Bool := und wd o 60 w
def WdOk (wd : Nat → Int32) (W : Nat) : Prop := ∀ k, k < W → wd k = -1 ∨ ∃ j, j < k ∧ wd k = nI j
theorem und_fuel {wd : Nat → Int32} {W o : Nat} (hwd : WdOk wd W) (hW : W ≤ 60) : ∀ w, w < W → ∀ g h, w ≤ g → w ≤ h → und wd o g w = und wd o h w := by
  intro w
  induction w using Nat.strongRecOn with
  | ind w ih =>
    intro hw g h hg hh
    have key : ∀ g, w ≤ g → und wd o g w = if w = o then true else if wd w = -1 then false else und wd o w (wd w).toNatClampNeg := by
      intro g hg
      cases g with
      | zero =>
        have h0 : w = 0 := by omega
        subst h0
        rcases hwd 0 hw with z | ⟨j, hj, -⟩
        · show decide (0 = o) = _
          by_cases e : 0 = o
          · rw [if_pos e, decide_eq_true e]
          · rw [if_neg e, if_pos z, decide_eq_false e]
        · omega
      | succ g =>
        show (if w = o then true else if wd w = -1 then false else und wd o g (wd w).toNatClampNeg) = _
        by_cases e : w = o
        · rw [if_pos e, if_pos e]
        · rw [if_neg e, if_neg e]
          by_cases z : wd w = -1
          · rw [if_pos z, if_pos z]
          · rw [if_neg z, if_neg z]
            rcases hwd w hw with q | ⟨j, hj, q⟩
            · exact absurd q z
            · rw [q, nI_clamp (by omega)]
              exact ih j hj (by omega) g w (by omega) (by omega)
    rw [key g hg, key h hh]
theorem under_self {wd : Nat → Int32} {o : Nat} : underB wd o o = true := if_pos rfl
theorem under_top {wd : Nat → Int32} {w o : Nat} (h : ¬ w = o) (hz : wd w = -1) : underB wd w o = false := by
  show (if w = o then true else if wd w = -1 then false else _) = false
  rw [if_neg h, if_pos hz]
theorem under_up {wd : Nat → Int32} {W w j o : Nat} (hwd : WdOk wd W) (hW : W ≤ 60) (hw : w < W) (h : ¬ w = o) (hj : j < w) (hz : wd w = nI j) : underB wd w o = underB wd j o := by
  have hn : ¬ wd w = -1 := by rw [hz]; exact nI_ne_m1
  show (if w = o then true else if wd w = -1 then false else und wd o 59 (wd w).toNatClampNeg) = und wd o 60 j
  rw [if_neg h, if_neg hn, hz, nI_clamp (by omega)]
  exact und_fuel hwd hW j (by omega) 59 60 (by omega) (by omega)

set_option maxRecDepth 100000 in
set_option maxHeartbeats 4000000 in
theorem mX0_isUnder (l : Launch) (G : pG) (ad : Nat → Nat) (x : XV) (T : va_W) (w o nW : Nat) (hwd : WdOk (x.2.1 4) nW) (hW60 : nW ≤ 60) (hw : w < nW) (ho : o < 60) : Met l yX0_isUnder (ws_ yX0_isUnder cX0_isUnder 4 (some .boolean)) ({ frames := 0, cells := 0, slots := 0, locals := 0 } : Room) (va_Pc [.ref (ad 0), .int (nI w), .int (nI o)] (fun U => pW G (HWl G ad x ++ T) U)) (va_Qi (fun r (_ : Unit) => (r = 1 ∧ underB (x.2.1 4) w o = true) ∨ (r = 0 ∧ underB (x.2.1 4) w o = false)) (fun (u : Unit) t9 => pW G (HWl G ad x ++ T) t9) (pA G)) 0 0 (pA G) := by
  refine mw (by decide) (Nat.le_of_ble_eq_true rfl) ?_
  intro pp ee R s m below meth c ls Q hF hRt hLk hnm hR hQ hW hl
  have hx := hF.1
  have hb := hF.2.1
  have hts := hF.2.2.2.2
  have hR1 : R.frames = 0 := by rw [hR]
  have hR2 : R.cells = 0 := by rw [hR]
  have hR3 : R.slots = 0 := by rw [hR]
  have hR4 : R.locals = 0 := by rw [hR]
  have hl : lv_has ls 4 [(0, .ref (ad 0)), (1, .int (nI w)), (2, .int (nI o))] := hl
  have hW : pM G (HWl G ad x ++ T) s s.heap [] := hW
  refine lv_iload_n hx hb dX0_isUnder_0 rfl (lv_at hl 1 rfl) ?_
  refine lv_istore_n (lv' := [(3, .int (nI w)), (0, .ref (ad 0)), (1, .int (nI w)), (2, .int (nI o))]) hx hb dX0_isUnder_1 rfl hl (by decide) rfl (fun ls hl => ?_)
  have loop_2 : ∀ (nn : Nat) (k : Nat) (H : Heap) (locs : List Loc) (ls : Array Slot), k < nn → (k < nW) → (underB (x.2.1 4) w o = underB (x.2.1 4) k o) → pM G (HWl G ad x ++ T) s H locs → lv_has ls 4 [(0, .ref (ad 0)), (1, .int (nI w)), (2, .int (nI o)), (3, .int (nI k))] → W pp l ee R s m ([.ref (ad 0), .int (nI w), .int (nI o)] : List Value).toArray below meth c H locs 0 0 Q (F0 m 2 ls []) := by
    intro nn
    induction nn with
    | zero => intro k H locs ls hm; exact absurd hm (Nat.not_lt_zero _)
    | succ nn ih =>
      intro k H locs ls hm hk hres hW hl
      refine lv_iload_n hx hb dX0_isUnder_2 rfl (lv_at hl 3 rfl) ?_
      refine lv_iconst (v := (-1)) hx hb dX0_isUnder_3 (by decide) ?_
      refine lv_icmp_eq (tgt := 22) hx hb dX0_isUnder_4 (by decide) (fun c_4 => absurd c_4 (nI_ne_m1 (by omega))) (fun c_4 => ?_)
      refine lv_iload_n hx hb dX0_isUnder_7 rfl (lv_at hl 3 rfl) ?_
      refine lv_iload_n hx hb dX0_isUnder_8 rfl (lv_at hl 2 rfl) ?_
      refine lv_icmp_eq (tgt := 22) hx hb dX0_isUnder_9 (by decide) (fun c_9 => ?_) (fun c_9 => ?_)
      · refine lv_iload_n hx hb dX0_isUnder_22 rfl (lv_at hl 3 rfl) ?_
        refine lv_iload_n hx hb dX0_isUnder_23 rfl (lv_at hl 2 rfl) ?_
        refine lv_icmp_ne (tgt := 31) hx hb dX0_isUnder_24 (by decide) (fun c_24 => absurd c_9 c_24) (fun c_24 => ?_)
        refine lv_iconst (v := 1) hx hb dX0_isUnder_27 (by decide) ?_
        refine lv_goto (tgt := 32) hx hb dX0_isUnder_28 (by decide) ?_
        exact re_z hF hRt hLk hQ (by omega) (by omega) (by decide) dX0_isUnder_32 () (Or.inl ⟨rfl, hres.trans (by rw [eq_eq c_9]; exact under_self)⟩) hW
      · refine lv_aload_n hx hb dX0_isUnder_12 rfl (lv_at hl 0 rfl) ?_
        refine gH0_wider hF hW q264 dX0_isUnder_13 ?_
        refine lv_iload_n hx hb dX0_isUnder_16 rfl (lv_at hl 3 rfl) ?_
        refine lH9 hF hW (j := k) (rfl) (by omega) (v := x.2.1 4 k) (rfl) dX0_isUnder_17 ?_
        have hne : ¬ k = o := fun z => c_9 (by rw [z])
        rcases hwd k hk with hz | ⟨j, hj, hz⟩
        · refine lv_eqi (show x.2.1 4 k = -1 from hz) ?_
          refine lv_istore_n (lv' := [(3, .int (-1)), (0, .ref (ad 0)), (1, .int (nI w)), (2, .int (nI o))]) hx hb dX0_isUnder_18 rfl hl (by decide) rfl (fun ls hl => ?_)
          refine lv_goto (tgt := 2) hx hb dX0_isUnder_19 (by decide) ?_
          refine lv_iload_n hx hb dX0_isUnder_2 rfl (lv_at hl 0 rfl) ?_
          refine lv_iconst (v := (-1)) hx hb dX0_isUnder_3 (by decide) ?_
          refine lv_icmp_eq (tgt := 22) hx hb dX0_isUnder_4 (by decide) (fun c_4 => ?_) (fun c_4 => absurd c_4 (by decide))
          refine lv_iload_n hx hb dX0_isUnder_22 rfl (lv_at hl 0 rfl) ?_
          refine lv_iload_n hx hb dX0_isUnder_23 rfl (lv_at hl 3 rfl) ?_
          refine lv_icmp_ne (tgt := 31) hx hb dX0_isUnder_24 (by decide) (fun c_24 => ?_) (fun c_24 => absurd c_24.symm (nI_ne_m1 (by omega)))
          refine lv_iconst (v := 0) hx hb dX0_isUnder_31 (by decide) ?_
          exact re_z hF hRt hLk hQ (by omega) (by omega) (by decide) dX0_isUnder_32 () (Or.inr ⟨rfl, hres.trans (under_top hne hz)⟩) hW
        · refine lv_eqi (show x.2.1 4 k = nI j from hz) ?_
          refine lv_istore_n (lv' := [(3, .int (nI j)), (0, .ref (ad 0)), (1, .int (nI w)), (2, .int (nI o))]) hx hb dX0_isUnder_18 rfl hl (by decide) rfl (fun ls hl => ?_)
          refine lv_goto (tgt := 2) hx hb dX0_isUnder_19 (by decide) ?_
          exact ih j H locs ls (by omega) (by omega) (hres.trans (under_up hwd hW60 hk hne hj hz)) hW (lv_sub hl [1, 2, 3, 0] rfl)
  exact loop_2 _ w _ _ _ (Nat.lt_succ_self _) (hw) (rfl) hW (lv_sub hl [1, 2, 3, 0] rfl)

set_option maxRecDepth 100000 in
set_option maxHeartbeats 4000000 in
theorem mX1_alone (l : Launch) (G : pG) (ad : Nat → Nat) (x : XV) (T : va_W) (v lt0 : Nat → Int32) (wd0 : Option Nat) (n : Nat) (hn : n ≤ 300) : Met l yX1_alone (ws_ yX1_alone cX1_alone 3 (some (.object "java/lang/String"))) ({ frames := 6, cells := 4, slots := 28, locals := 142 } : Room) (va_Pc [.ref (ad 2), .int (nI n)] (fun U => pW G (HWl G ad (rdx x v lt0 wd0) ++ T) U)) (va_Qq (fun r (u : RS) => ((tkK (x.2.1 0) n 0 = 2 ∧ tkK (x.2.1 0) n (tkE (x.2.1 0) n 0) = 0) ∧ ∃ a, r = some a ∧ HS G (T ++ u.2.2.2) a (tkW (x.2.1 0) n 0)) ∨ (¬ (tkK (x.2.1 0) n 0 = 2 ∧ tkK (x.2.1 0) n (tkE (x.2.1 0) n 0) = 0) ∧ r = none)) (fun (u : RS) t9 => pW G (HWl G ad (rdx x u.1 u.2.1 u.2.2.1) ++ (T ++ u.2.2.2)) t9) (pA G)) 4 28 (pA G) := by
  refine mw (by decide) (Nat.le_of_ble_eq_true rfl) ?_
  intro pp ee R s m below meth c ls Q hF hRt hLk hnm hR hQ hW hl
  have hx := hF.1
  have hb := hF.2.1
  have hts := hF.2.2.2.2
  have hR1 : R.frames = 6 := by rw [hR]
  have hR2 : R.cells = 4 := by rw [hR]
  have hR3 : R.slots = 28 := by rw [hR]
  have hR4 : R.locals = 142 := by rw [hR]
  have hl : lv_has ls 3 [(0, .ref (ad 2)), (1, .int (nI n))] := hl
  have hW : pM G (HWl G ad (rdx x v lt0 wd0) ++ T) s s.heap [] := hW
  refine lv_aload_n hx hb dX1_alone_0 rfl (lv_at hl 0 rfl) ?_
  refine lv_iload_n hx hb dX1_alone_1 rfl (lv_at hl 1 rfl) ?_
  refine cl_v (ru_V (As := [.int (nI n)]) (rest := []) hF (mX1_begin l G ad x T v lt0 wd0 n hn) (cwV 1 hts (lw_V q378 q380 qs4 q60 q381) rfl rfl rfl (by decide +kernel) ⟨lb hR1 rfl, lb hR4 rfl⟩) hW (List.mem_of_getElem? (i := 2) rfl) (ci := 1) rfl rfl rfl hl.1 rfl (lv_room (Nat.le_of_ble_eq_true rfl)) dX1_alone_2 ⟨by omega, by omega⟩) hW (fun u_ H locs h_ hW => ?_)
  obtain ⟨v1, lt1, wd1, N1⟩ := u_
  obtain ⟨b14, b15, b16, b17, bw⟩ := h_
  have hW : pM G (HWl G ad (rdx x v1 lt1 wd1) ++ (T ++ N1)) s _ _ := hW
  refine lv_aload_n hx hb dX1_alone_5 rfl (lv_at hl 0 rfl) ?_
  refine gH2_token hF hW q188 (v := nI (tkK (x.2.1 0) n 0)) (b16) dX1_alone_6 ?_
  refine lv_iconst (v := 2) hx hb dX1_alone_9 (by decide) ?_
  refine lv_icmp_eq (tgt := 15) hx hb dX1_alone_10 (by decide) (fun c_10 => ?_) (fun c_10 => ?_)
  · have hk0 : tkK (x.2.1 0) n 0 = 2 := eq_eq (b := 2) c_10 (by have := tkK_lt (x.2.1 0) n 0; omega)
    obtain ⟨a0, hwd0, hs0⟩ := bw hk0
    have hwd0 : wd1 = some a0 := hwd0
    refine lv_aload_n hx hb dX1_alone_15 rfl (lv_at hl 0 rfl) ?_
    refine gH2_word hF hW q190 (v := some a0) (hwd0) dX1_alone_16 ?_
    refine lv_astore_n (lv' := [(2, .ref a0), (0, .ref (ad 2)), (1, .int (nI n))]) hx hb dX1_alone_19 rfl hl (by decide) rfl (fun ls hl => ?_)
    refine lv_aload_n hx hb dX1_alone_20 rfl (lv_at hl 1 rfl) ?_
    refine cl_v (ru_V (As := []) (rest := []) hF (mX1_next l G ad x (T ++ N1) v1 lt1 wd1 (tkE (x.2.1 0) n 0) n hn b14 b15 (tkE_le (Nat.zero_le _))) (cwV 0 hts (lw_V q382 q384 qs5 q60 q385) rfl rfl rfl (by decide +kernel) ⟨lb hR1 rfl, lb hR4 rfl⟩) hW (List.mem_of_getElem? (i := 2) rfl) (ci := 1) rfl rfl rfl hl.1 rfl (lv_room (Nat.le_of_ble_eq_true rfl)) dX1_alone_21 ⟨by omega, by omega⟩) hW (fun u_ H locs h_ hW => ?_)
    obtain ⟨v2, lt2, wd2, N2⟩ := u_
    obtain ⟨x14, x15, x16, x17, xw⟩ := h_
    have hW : pM G (HWl G ad (rdx x v2 lt2 wd2) ++ ((T ++ N1) ++ N2)) s _ _ := hW
    refine lv_aload_n hx hb dX1_alone_24 rfl (lv_at hl 1 rfl) ?_
    refine gH2_token hF hW q188 (v := nI (tkK (x.2.1 0) n (tkE (x.2.1 0) n 0))) (x16) dX1_alone_25 ?_
    refine lv_if_ne (tgt := 35) hx hb dX1_alone_28 (by decide) (fun c_28 => ?_) (fun c_28 => ?_)
    · have hk1 : ¬ tkK (x.2.1 0) n (tkE (x.2.1 0) n 0) = 0 := fun z => c_28 (by rw [z]; rfl)
      refine lv_null hx hb dX1_alone_35 ?_
      exact re_q hF hRt (Or.inl ⟨_, rfl⟩) hLk hQ (by omega) (by omega) dX1_alone_36 none rfl (v2, lt2, wd2, N1 ++ N2) (Or.inr ⟨fun z => hk1 z.2, rfl⟩) (by simpa only [List.append_assoc] using hW)
    · have hk1 : tkK (x.2.1 0) n (tkE (x.2.1 0) n 0) = 0 := eq_eq (b := 0) c_28 (by have := tkK_lt (x.2.1 0) n (tkE (x.2.1 0) n 0); omega)
      refine lv_aload_n hx hb dX1_alone_31 rfl (lv_at hl 0 rfl) ?_
      refine lv_goto (tgt := 36) hx hb dX1_alone_32 (by decide) ?_
      exact re_q hF hRt (Or.inl ⟨_, rfl⟩) hLk hQ (by omega) (by omega) dX1_alone_36 (some a0) rfl (v2, lt2, wd2, N1 ++ N2) (Or.inl ⟨⟨hk0, hk1⟩, a0, rfl, hs0.mono (fun q h => ms_r (ms_l h))⟩) (by simpa only [List.append_assoc] using hW)
  · have hk0 : ¬ tkK (x.2.1 0) n 0 = 2 := fun z => c_10 (by rw [z]; rfl)
    refine lv_null hx hb dX1_alone_13 ?_
    exact re_q hF hRt (Or.inl ⟨_, rfl⟩) hLk hQ (by omega) (by omega) dX1_alone_14 none rfl (v1, lt1, wd1, N1) (Or.inr ⟨fun z => hk0 z.1, rfl⟩) hW
