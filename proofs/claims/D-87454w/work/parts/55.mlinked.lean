/-! the model's texts that stay as they are; links found -/
/-- words and links of a text, in cells -/
def MUc (t : Tx) (wf ff vf tf : Nat → Int32) : Prop := (∀ k, k < t.1.length → wf k = nI (t.2.1.getD k 0)) ∧ (∀ k, k < t.2.2.length → ff k = nI (t.2.2.getD k (0, 0, 0)).1 ∧ vf k = nI (t.2.2.getD k (0, 0, 0)).2.1 ∧ tf k = nI (t.2.2.getD k (0, 0, 0)).2.2)
def MU (G : pG) (T : va_W) (p : Nat) (t : Tx) : Prop := ∃ (an aw af av at_ : Nat) (nf : Nat → Int64) (wf ff vf tf : Nat → Int32), (p, .inr (22, [.int (nI t.1.length), .int (nI t.2.2.length), .ref an, .ref aw, .ref af, .ref av, .ref at_])) ∈ T ∧ (an, .inl (G.2.2.1 3, 8, .inr (.inl nf))) ∈ T ∧ (aw, .inl (G.2.2.1 0, 8, .inl wf)) ∈ T ∧ (af, .inl (G.2.2.1 0, 10, .inl ff)) ∈ T ∧ (av, .inl (G.2.2.1 0, 10, .inl vf)) ∈ T ∧ (at_, .inl (G.2.2.1 0, 10, .inl tf)) ∈ T ∧ MUc t wf ff vf tf
/-- with its names -/
def MT (G : pG) (T : va_W) (p : Nat) (t : Tx) : Prop := ∃ (an aw af av at_ : Nat) (nf : Nat → Int64) (wf ff vf tf : Nat → Int32), (p, .inr (22, [.int (nI t.1.length), .int (nI t.2.2.length), .ref an, .ref aw, .ref af, .ref av, .ref at_])) ∈ T ∧ (an, .inl (G.2.2.1 3, 8, .inr (.inl nf))) ∈ T ∧ (aw, .inl (G.2.2.1 0, 8, .inl wf)) ∈ T ∧ (af, .inl (G.2.2.1 0, 10, .inl ff)) ∈ T ∧ (av, .inl (G.2.2.1 0, 10, .inl vf)) ∈ T ∧ (at_, .inl (G.2.2.1 0, 10, .inl tf)) ∈ T ∧ MHc t nf wf ff vf tf
theorem MT.u {G : pG} {T : va_W} {p : Nat} {t : Tx} (h : MT G T p t) : MU G T p t := by
  obtain ⟨an, aw, af, av, at_, nf, wf, ff, vf, tf, h1, h2, h3, h4, h5, h6, h7⟩ := h
  exact ⟨an, aw, af, av, at_, nf, wf, ff, vf, tf, h1, h2, h3, h4, h5, h6, h7.2⟩
theorem MT.mono {G : pG} {T T1 : va_W} {p : Nat} {t : Tx} (h : MT G T p t) (hs : ∀ q ∈ T, q ∈ T1) : MT G T1 p t := by
  obtain ⟨an, aw, af, av, at_, nf, wf, ff, vf, tf, h1, h2, h3, h4, h5, h6, h7⟩ := h
  exact ⟨an, aw, af, av, at_, nf, wf, ff, vf, tf, hs _ h1, hs _ h2, hs _ h3, hs _ h4, hs _ h5, hs _ h6, h7⟩
theorem MU.mono {G : pG} {T T1 : va_W} {p : Nat} {t : Tx} (h : MU G T p t) (hs : ∀ q ∈ T, q ∈ T1) : MU G T1 p t := by
  obtain ⟨an, aw, af, av, at_, nf, wf, ff, vf, tf, h1, h2, h3, h4, h5, h6, h7⟩ := h
  exact ⟨an, aw, af, av, at_, nf, wf, ff, vf, tf, hs _ h1, hs _ h2, hs _ h3, hs _ h4, hs _ h5, hs _ h6, h7⟩
theorem getD_no {A : List (Option Nat)} {i : Nat} (h : A.length ≤ i) : A.getD i none = none := by
  rw [List.getD_eq_getElem?_getD, List.getElem?_eq_none h]; rfl
/-- all are placed -/
def AllS (A : List (Option Nat)) : Prop := ∀ i, i < A.length → ∃ p, A.getD i none = some p
theorem AllS.app {A : List (Option Nat)} {p : Nat} (h : AllS A) : AllS (A ++ [some p]) := by
  intro i hi
  rw [getD_up]
  rw [List.length_append] at hi
  have hi : i < A.length + 1 := hi
  by_cases e : i = A.length
  · rw [if_pos e]; exact ⟨p, rfl⟩
  · rw [if_neg e]; exact h i (by omega)
theorem goA {go : Nat → Int32} {A : List (Option Nat)} {p : Nat} (h : ∀ i, i < A.length → go i = enc (A.getD i none)) : ∀ i, i < (A ++ [some p]).length → va_up go A.length (nI p) i = enc ((A ++ [some p]).getD i none) := by
  intro i hi
  rw [List.length_append] at hi
  have hi : i < A.length + 1 := hi
  rw [getD_up]
  by_cases e : i = A.length
  · rw [if_pos e, e, up_s]; rfl
  · rw [if_neg e, up_n e]; exact h i (by omega)
theorem goB {go : Nat → Int32} {A : List (Option Nat)} {p : Nat} (h : ∀ i, i < (A ++ [some p]).length → go i = enc ((A ++ [some p]).getD i none)) : ∀ i, i < A.length → go i = enc (A.getD i none) := by
  intro i hi
  rw [h i (by rw [List.length_append]; omega), getD_up, if_neg (by omega)]

set_option maxRecDepth 100000 in
set_option maxHeartbeats 8000000 in
theorem mX4_isLinked (l : Launch) (G : pG) (ad : Nat → Nat) (x : XV) (T : va_W) (pa pb : Nat) (a b : Tx) (ha9 : MU G T pa a) (hb9 : MU G T pb b) (nW : Nat) (hwd : WdOk (x.2.1 0) nW) (hW60 : nW ≤ 60) (hoka : TxOk nW 8 10 a) (hokb : TxOk nW 8 10 b) (A : List (Option Nat)) (hgo : ∀ i, i < A.length → x.2.1 14 i = enc (A.getD i none)) (hAs : AllS A) (hA8 : ∀ i p, A.getD i none = some p → p < 8) (k : Nat) (hk8 : k < 8) (hkA : A.length = k + 1) : Met l yX4_isLinked (ws_ yX4_isLinked cX4_isLinked 10 (some .boolean)) ({ frames := 1, cells := 0, slots := 0, locals := 23 } : Room) (va_Pc [.ref (ad 0), .ref pa, .ref pb, .int (nI k)] (fun U => pW G (MWl G ad x ++ T) U)) (va_Qi (fun r (_ : Unit) => (r = 1 ∧ lkB (x.2.1 0) a b A k = true) ∨ (r = 0 ∧ lkB (x.2.1 0) a b A k = false)) (fun (u : Unit) t9 => pW G (MWl G ad x ++ T) t9) (pA G)) 0 0 (pA G) := by
  refine mw (by decide) (Nat.le_of_ble_eq_true rfl) ?_
  intro pp ee R s m below meth c ls Q hF hRt hLk hnm hR hQ hW hl
  have hx := hF.1
  have hb := hF.2.1
  have hts := hF.2.2.2.2
  have hR1 : R.frames = 1 := by rw [hR]
  have hR2 : R.cells = 0 := by rw [hR]
  have hR3 : R.slots = 0 := by rw [hR]
  have hR4 : R.locals = 23 := by rw [hR]
  have hl : lv_has ls 10 [(0, .ref (ad 0)), (1, .ref pa), (2, .ref pb), (3, .int (nI k))] := hl
  have hW : pM G (MWl G ad x ++ T) s s.heap [] := hW
  obtain ⟨ana, awa, afa, ava, ata, nfa, wfa, ffa, vfa, tfa, ha1, ha2, ha3, ha4, ha5, ha6, ha7⟩ := ha9
  obtain ⟨anb, awb, afb, avb, atb, nfb, wfb, ffb, vfb, tfb, hb1, hb2, hb3, hb4, hb5, hb6, hb7⟩ := hb9
  have ha10 := hoka.2.2.2.1
  have ha8 := hoka.2.2.1
  have hb10 := hokb.2.2.2.1
  have hb8 := hokb.2.2.1
  refine lv_iconst (v := 1) hx hb dX4_isLinked_0 (by decide) ?_
  refine lv_istore (lv' := [(4, .int 1), (0, .ref (ad 0)), (1, .ref pa), (2, .ref pb), (3, .int (nI k))]) hx hb dX4_isLinked_1 hl (by decide) rfl (fun ls hl => ?_)
  refine lv_iconst (v := 0) hx hb dX4_isLinked_3 (by decide) ?_
  refine lv_istore (lv' := [(5, .int 0), (4, .int 1), (0, .ref (ad 0)), (1, .ref pa), (2, .ref pb), (3, .int (nI k))]) hx hb dX4_isLinked_4 hl (by decide) rfl (fun ls hl => ?_)
  have loop_6 : ∀ (nn : Nat) (n : Nat) (H : Heap) (locs : List Loc) (ls : Array Slot), a.2.2.length - n < nn → (n ≤ a.2.2.length) → (∀ k9, k9 < n → lkP (x.2.1 0) b A k (a.2.2.getD k9 (0, 0, 0)) = true) → pM G (MWl G ad x ++ T) s H locs → lv_has ls 10 [(0, .ref (ad 0)), (1, .ref pa), (2, .ref pb), (3, .int (nI k)), (4, .int 1), (5, .int (nI n))] → W pp l ee R s m ([.ref (ad 0), .ref pa, .ref pb, .int (nI k)] : List Value).toArray below meth c H locs 0 0 Q (F0 m 6 ls []) := by
    intro nn
    induction nn with
    | zero => intro n H locs ls hm; exact absurd hm (Nat.not_lt_zero _)
    | succ nn ih =>
      intro n H locs ls hm hn hg hW hl
      refine lv_iload hx hb dX4_isLinked_6 (lv_at hl 5 rfl) ?_
      refine lv_aload_n hx hb dX4_isLinked_8 rfl (lv_at hl 1 rfl) ?_
      refine gtN hF hW (ms_r ha1) (ci := 22) rfl in_X6 1 (by decide) (List.mem_of_getElem? (i := 8) rfl) rfl (v := .int (nI a.2.2.length)) rfl dX4_isLinked_9 ?_
      refine lv_icmp_ge (tgt := 163) hx hb dX4_isLinked_12 (by decide) (fun c_12 => ?_) (fun c_12 => ?_)
      · refine lv_iload hx hb dX4_isLinked_163 (lv_at hl 4 rfl) ?_
        exact re_z hF hRt hLk hQ (by omega) (by omega) (by decide) dX4_isLinked_165 () (Or.inl ⟨rfl, all_yes (d := (0, 0, 0)) (fun k9 h9 => hg k9 (by have := le_le c_12; omega))⟩) hW
      · have hkl : n < a.2.2.length := nle_lt c_12
        have hlk := ha7.2 n hkl
        have hli := hoka.2.2.2.2.2 _ (getD_mem (d := (0, 0, 0)) hkl)
        generalize hq : a.2.2.getD n (0, 0, 0) = q at hlk hli
        refine lv_iload hx hb dX4_isLinked_15 (lv_at hl 4 rfl) ?_
        refine lv_if_eq (tgt := 163) hx hb dX4_isLinked_17 (by decide) (fun c_17 => absurd c_17 (by decide)) (fun c_17 => ?_)
        refine lv_aload_n hx hb dX4_isLinked_20 rfl (lv_at hl 1 rfl) ?_
        refine gtN hF hW (ms_r ha1) (ci := 22) rfl in_X6 4 (by decide) (List.mem_of_getElem? (i := 11) rfl) rfl (v := .ref afa) rfl dX4_isLinked_21 ?_
        refine lv_iload hx hb dX4_isLinked_24 (lv_at hl 5 rfl) ?_
        refine al_i hF hW (ms_r ha4) 0 rfl (j := n) (rfl) (by omega) (by decide) dX4_isLinked_26 ?_
        refine lv_eqv (congrArg Value.int (show ffa n = nI q.1 from hlk.1)) ?_
        refine lv_istore (lv' := [(6, .int (nI q.1)), (0, .ref (ad 0)), (1, .ref pa), (2, .ref pb), (3, .int (nI k)), (4, .int 1), (5, .int (nI n))]) hx hb dX4_isLinked_27 hl (by decide) rfl (fun ls hl => ?_)
        refine lv_aload_n hx hb dX4_isLinked_29 rfl (lv_at hl 2 rfl) ?_
        refine gtN hF hW (ms_r ha1) (ci := 22) rfl in_X6 6 (by decide) (List.mem_of_getElem? (i := 13) rfl) rfl (v := .ref ata) rfl dX4_isLinked_30 ?_
        refine lv_iload hx hb dX4_isLinked_33 (lv_at hl 6 rfl) ?_
        refine al_i hF hW (ms_r ha6) 0 rfl (j := n) (rfl) (by omega) (by decide) dX4_isLinked_35 ?_
        refine lv_eqv (congrArg Value.int (show tfa n = nI q.2.2 from hlk.2.2)) ?_
        refine lv_istore (lv' := [(7, .int (nI q.2.2)), (6, .int (nI q.1)), (0, .ref (ad 0)), (1, .ref pa), (2, .ref pb), (3, .int (nI k)), (4, .int 1), (5, .int (nI n))]) hx hb dX4_isLinked_36 hl (by decide) rfl (fun ls hl => ?_)
        refine lv_iload hx hb dX4_isLinked_38 (lv_at hl 1 rfl) ?_
        refine lv_iload_n hx hb dX4_isLinked_40 rfl (lv_at hl 5 rfl) ?_
        refine lv_icmp_gt (tgt := 157) hx hb dX4_isLinked_41 (by decide) (fun c_41 => ?_) (fun c_41 => ?_)
        · have hgt : k < q.1 := lt_lt c_41
          refine lv_iinc (v := nI (n + 1)) (lv' := [(5, .int (nI (n + 1))), (7, .int (nI q.2.2)), (6, .int (nI q.1)), (0, .ref (ad 0)), (1, .ref pa), (2, .ref pb), (3, .int (nI k)), (4, .int 1)]) hx hb dX4_isLinked_157 hl (k := 7) rfl (nI_1 _) (by decide) rfl (fun ls hl => ?_)
          refine lv_goto (tgt := 6) hx hb dX4_isLinked_160 (by decide) ?_
          exact ih (n + 1) H locs ls (by omega) (by omega) (fun k9 h9 => if h : k9 = n then h ▸ (by show lkP _ _ _ _ (a.2.2.getD n (0, 0, 0)) = true; rw [hq]; exact lk_0 (getD_no (by omega))) else hg k9 (by omega)) hW (lv_sub hl [3, 4, 5, 6, 7, 0] rfl)
        · have hle1 : q.1 ≤ k := nlt_le c_41
          refine lv_iload hx hb dX4_isLinked_44 (lv_at hl 0 rfl) ?_
          refine lv_iload_n hx hb dX4_isLinked_46 rfl (lv_at hl 5 rfl) ?_
          refine lv_icmp_gt (tgt := 157) hx hb dX4_isLinked_47 (by decide) (fun c_47 => ?_) (fun c_47 => ?_)
          · have hgt : k < q.2.2 := lt_lt c_47
            refine lv_iinc (v := nI (n + 1)) (lv' := [(5, .int (nI (n + 1))), (7, .int (nI q.2.2)), (6, .int (nI q.1)), (0, .ref (ad 0)), (1, .ref pa), (2, .ref pb), (3, .int (nI k)), (4, .int 1)]) hx hb dX4_isLinked_157 hl (k := 7) rfl (nI_1 _) (by decide) rfl (fun ls hl => ?_)
            refine lv_goto (tgt := 6) hx hb dX4_isLinked_160 (by decide) ?_
            exact ih (n + 1) H locs ls (by omega) (by omega) (fun k9 h9 => if h : k9 = n then h ▸ (by show lkP _ _ _ _ (a.2.2.getD n (0, 0, 0)) = true; rw [hq]; exact lk_1 (getD_no (by omega))) else hg k9 (by omega)) hW (lv_sub hl [3, 4, 5, 6, 7, 0] rfl)
          · have hle2 : q.2.2 ≤ k := nlt_le c_47
            refine lv_iload hx hb dX4_isLinked_50 (lv_at hl 1 rfl) ?_
            refine lv_iload_n hx hb dX4_isLinked_52 rfl (lv_at hl 5 rfl) ?_
            refine lv_icmp_eq (tgt := 65) hx hb dX4_isLinked_53 (by decide) (fun c_53 => ?_) (fun c_53 => ?_)
            · obtain ⟨i0, hA1⟩ := hAs q.1 (by omega)
              obtain ⟨j0, hA2⟩ := hAs q.2.2 (by omega)
              have hi8 := hA8 _ _ hA1
              have hj8 := hA8 _ _ hA2
              refine lv_iconst (v := 0) hx hb dX4_isLinked_65 (by decide) ?_
              refine lv_istore (lv' := [(8, .int 0), (7, .int (nI q.2.2)), (6, .int (nI q.1)), (0, .ref (ad 0)), (1, .ref pa), (2, .ref pb), (3, .int (nI k)), (4, .int 1), (5, .int (nI n))]) hx hb dX4_isLinked_66 hl (by decide) rfl (fun ls hl => ?_)
              refine lv_iconst (v := 0) hx hb dX4_isLinked_68 (by decide) ?_
              refine lv_istore (lv' := [(9, .int 0), (8, .int 0), (7, .int (nI q.2.2)), (6, .int (nI q.1)), (0, .ref (ad 0)), (1, .ref pa), (2, .ref pb), (3, .int (nI k)), (4, .int 1), (5, .int (nI n))]) hx hb dX4_isLinked_69 hl (by decide) rfl (fun ls hl => ?_)
              have loop_71 : ∀ (nn2 : Nat) (n2 : Nat) (v : Int32) (H : Heap) (locs : List Loc) (ls : Array Slot), b.2.2.length - n2 < nn2 → (n2 ≤ b.2.2.length) → ((v = 1 ∧ hlB (x.2.1 0) b i0 q.2.1 j0 = true) ∨ (v = 0 ∧ ∀ k9, k9 < n2 → (fun l : Nat × Nat × Nat => decide (l.1 = i0) && (decide (l.2.2 = j0) && underB (x.2.1 0) l.2.1 q.2.1)) (b.2.2.getD k9 (0, 0, 0)) = false)) → pM G (MWl G ad x ++ T) s H locs → lv_has ls 10 [(0, .ref (ad 0)), (1, .ref pa), (2, .ref pb), (3, .int (nI k)), (4, .int 1), (5, .int (nI n)), (6, .int (nI q.1)), (7, .int (nI q.2.2)), (8, .int v), (9, .int (nI n2))] → W pp l ee R s m ([.ref (ad 0), .ref pa, .ref pb, .int (nI k)] : List Value).toArray below meth c H locs 0 0 Q (F0 m 71 ls []) := by
                intro nn2
                induction nn2 with
                | zero => intro n2 v H locs ls hm; exact absurd hm (Nat.not_lt_zero _)
                | succ nn2 ih2 =>
                  intro n2 v H locs ls hm hn2 hv hW hl
                  rcases hv with ⟨rfl, hv1⟩ | ⟨rfl, hv1⟩
                  · refine lv_iload hx hb dX4_isLinked_71 (lv_at hl 9 rfl) ?_
                    refine lv_aload_n hx hb dX4_isLinked_73 rfl (lv_at hl 2 rfl) ?_
                    refine gtN hF hW (ms_r hb1) (ci := 22) rfl in_X6 1 (by decide) (List.mem_of_getElem? (i := 8) rfl) rfl (v := .int (nI b.2.2.length)) rfl dX4_isLinked_74 ?_
                    refine lv_icmp_ge (tgt := 153) hx hb dX4_isLinked_77 (by decide) (fun c_77 => ?_) (fun c_77 => ?_)
                    · refine lv_iload hx hb dX4_isLinked_153 (lv_at hl 8 rfl) ?_
                      refine lv_istore (lv' := [(4, .int 1), (0, .ref (ad 0)), (1, .ref pa), (2, .ref pb), (3, .int (nI k)), (5, .int (nI n)), (6, .int (nI q.1)), (7, .int (nI q.2.2)), (8, .int 1), (9, .int (nI n2))]) hx hb dX4_isLinked_155 hl (by decide) rfl (fun ls hl => ?_)
                      refine lv_iinc (v := nI (n + 1)) (lv' := [(5, .int (nI (n + 1))), (4, .int 1), (0, .ref (ad 0)), (1, .ref pa), (2, .ref pb), (3, .int (nI k)), (6, .int (nI q.1)), (7, .int (nI q.2.2)), (8, .int 1), (9, .int (nI n2))]) hx hb dX4_isLinked_157 hl (k := 5) rfl (nI_1 _) (by decide) rfl (fun ls hl => ?_)
                      refine lv_goto (tgt := 6) hx hb dX4_isLinked_160 (by decide) ?_
                      exact ih (n + 1) H locs ls (by omega) (by omega) (fun k9 h9 => if h : k9 = n then h ▸ (by show lkP _ _ _ _ (a.2.2.getD n (0, 0, 0)) = true; rw [hq]; exact lk_y hA1 hA2 hv1) else hg k9 (by omega)) hW (lv_sub hl [2, 3, 4, 5, 1, 0] rfl)
                    · refine lv_iload hx hb dX4_isLinked_80 (lv_at hl 8 rfl) ?_
                      refine lv_if_ne (tgt := 140) hx hb dX4_isLinked_82 (by decide) (fun c_82 => ?_) (fun c_82 => absurd c_82 (by decide))
                      refine lv_iconst (v := 1) hx hb dX4_isLinked_140 (by decide) ?_
                      refine lv_goto (tgt := 145) hx hb dX4_isLinked_141 (by decide) ?_
                      refine lv_istore (lv' := [(8, .int 1), (0, .ref (ad 0)), (1, .ref pa), (2, .ref pb), (3, .int (nI k)), (4, .int 1), (5, .int (nI n)), (6, .int (nI q.1)), (7, .int (nI q.2.2)), (9, .int (nI n2))]) hx hb dX4_isLinked_145 hl (by decide) rfl (fun ls hl => ?_)
                      refine lv_iinc (v := nI (n2 + 1)) (lv' := [(9, .int (nI (n2 + 1))), (8, .int 1), (0, .ref (ad 0)), (1, .ref pa), (2, .ref pb), (3, .int (nI k)), (4, .int 1), (5, .int (nI n)), (6, .int (nI q.1)), (7, .int (nI q.2.2))]) hx hb dX4_isLinked_147 hl (k := 9) rfl (nI_1 _) (by decide) rfl (fun ls hl => ?_)
                      refine lv_goto (tgt := 71) hx hb dX4_isLinked_150 (by decide) ?_
                      exact ih2 (n2 + 1) 1 H locs ls (by have := nle_lt c_77; omega) (by have := nle_lt c_77; omega) (Or.inl ⟨rfl, hv1⟩) hW (lv_sub hl [2, 3, 4, 5, 6, 7, 8, 9, 1, 0] rfl)
                  · refine lv_iload hx hb dX4_isLinked_71 (lv_at hl 9 rfl) ?_
                    refine lv_aload_n hx hb dX4_isLinked_73 rfl (lv_at hl 2 rfl) ?_
                    refine gtN hF hW (ms_r hb1) (ci := 22) rfl in_X6 1 (by decide) (List.mem_of_getElem? (i := 8) rfl) rfl (v := .int (nI b.2.2.length)) rfl dX4_isLinked_74 ?_
                    refine lv_icmp_ge (tgt := 153) hx hb dX4_isLinked_77 (by decide) (fun c_77 => ?_) (fun c_77 => ?_)
                    · refine lv_iload hx hb dX4_isLinked_153 (lv_at hl 8 rfl) ?_
                      refine lv_istore (lv' := [(4, .int 0), (0, .ref (ad 0)), (1, .ref pa), (2, .ref pb), (3, .int (nI k)), (5, .int (nI n)), (6, .int (nI q.1)), (7, .int (nI q.2.2)), (8, .int 0), (9, .int (nI n2))]) hx hb dX4_isLinked_155 hl (by decide) rfl (fun ls hl => ?_)
                      refine lv_iinc (v := nI (n + 1)) (lv' := [(5, .int (nI (n + 1))), (4, .int 0), (0, .ref (ad 0)), (1, .ref pa), (2, .ref pb), (3, .int (nI k)), (6, .int (nI q.1)), (7, .int (nI q.2.2)), (8, .int 0), (9, .int (nI n2))]) hx hb dX4_isLinked_157 hl (k := 5) rfl (nI_1 _) (by decide) rfl (fun ls hl => ?_)
                      refine lv_goto (tgt := 6) hx hb dX4_isLinked_160 (by decide) ?_
                      refine lv_iload hx hb dX4_isLinked_6 (lv_at hl 0 rfl) ?_
                      refine lv_aload_n hx hb dX4_isLinked_8 rfl (lv_at hl 3 rfl) ?_
                      refine gtN hF hW (ms_r ha1) (ci := 22) rfl in_X6 1 (by decide) (List.mem_of_getElem? (i := 8) rfl) rfl (v := .int (nI a.2.2.length)) rfl dX4_isLinked_9 ?_
                      refine lv_icmp_ge (tgt := 163) hx hb dX4_isLinked_12 (by decide) (fun c_12 => ?_) (fun c_12 => ?_)
                      · refine lv_iload hx hb dX4_isLinked_163 (lv_at hl 1 rfl) ?_
                        exact re_z hF hRt hLk hQ (by omega) (by omega) (by decide) dX4_isLinked_165 () (Or.inr ⟨rfl, all_no (d := (0, 0, 0)) hkl (by show lkP _ _ _ _ (a.2.2.getD n (0, 0, 0)) = false; rw [hq]; exact lk_f (Or.inl (eq_eq c_53)) hA1 hA2 (any_no (d := (0, 0, 0)) (fun k9 h9 => hv1 k9 (by have := le_le c_77; omega))))⟩) hW
                      · refine lv_iload hx hb dX4_isLinked_15 (lv_at hl 1 rfl) ?_
                        refine lv_if_eq (tgt := 163) hx hb dX4_isLinked_17 (by decide) (fun c_17 => ?_) (fun c_17 => absurd c_17 (by decide))
                        refine lv_iload hx hb dX4_isLinked_163 (lv_at hl 1 rfl) ?_
                        exact re_z hF hRt hLk hQ (by omega) (by omega) (by decide) dX4_isLinked_165 () (Or.inr ⟨rfl, all_no (d := (0, 0, 0)) hkl (by show lkP _ _ _ _ (a.2.2.getD n (0, 0, 0)) = false; rw [hq]; exact lk_f (Or.inl (eq_eq c_53)) hA1 hA2 (any_no (d := (0, 0, 0)) (fun k9 h9 => hv1 k9 (by have := le_le c_77; omega))))⟩) hW
                    · have hjl : n2 < b.2.2.length := nle_lt c_77
                      have hlb := hb7.2 n2 hjl
                      have hlj := hokb.2.2.2.2.2 _ (getD_mem (d := (0, 0, 0)) hjl)
                      generalize hr : b.2.2.getD n2 (0, 0, 0) = r9 at hlb hlj
                      refine lv_iload hx hb dX4_isLinked_80 (lv_at hl 8 rfl) ?_
                      refine lv_if_ne (tgt := 140) hx hb dX4_isLinked_82 (by decide) (fun c_82 => absurd c_82 (by decide)) (fun c_82 => ?_)
                      refine lv_aload_n hx hb dX4_isLinked_85 rfl (lv_at hl 2 rfl) ?_
                      refine gtN hF hW (ms_r hb1) (ci := 22) rfl in_X6 4 (by decide) (List.mem_of_getElem? (i := 11) rfl) rfl (v := .ref afb) rfl dX4_isLinked_86 ?_
                      refine lv_iload hx hb dX4_isLinked_89 (lv_at hl 9 rfl) ?_
                      refine al_i hF hW (ms_r hb4) 0 rfl (j := n2) (rfl) (by omega) (by decide) dX4_isLinked_91 ?_
                      refine lv_eqv (congrArg Value.int (show ffb n2 = nI r9.1 from hlb.1)) ?_
                      refine lv_aload_n hx hb dX4_isLinked_92 rfl (lv_at hl 0 rfl) ?_
                      refine gM0_goes hF hW q1134 dX4_isLinked_93 ?_
                      refine lv_iload hx hb dX4_isLinked_96 (lv_at hl 6 rfl) ?_
                      refine lM22 hF hW (j := q.1) (rfl) (by omega) (v := nI i0) ((hgo q.1 (by omega)).trans (by rw [hA1]; rfl)) dX4_isLinked_98 ?_
                      refine lv_icmp_ne (tgt := 144) hx hb dX4_isLinked_99 (by decide) (fun c_99 => ?_) (fun c_99 => ?_)
                      · refine lv_iconst (v := 0) hx hb dX4_isLinked_144 (by decide) ?_
                        refine lv_istore (lv' := [(8, .int 0), (0, .ref (ad 0)), (1, .ref pa), (2, .ref pb), (3, .int (nI k)), (4, .int 1), (5, .int (nI n)), (6, .int (nI q.1)), (7, .int (nI q.2.2)), (9, .int (nI n2))]) hx hb dX4_isLinked_145 hl (by decide) rfl (fun ls hl => ?_)
                        refine lv_iinc (v := nI (n2 + 1)) (lv' := [(9, .int (nI (n2 + 1))), (8, .int 0), (0, .ref (ad 0)), (1, .ref pa), (2, .ref pb), (3, .int (nI k)), (4, .int 1), (5, .int (nI n)), (6, .int (nI q.1)), (7, .int (nI q.2.2))]) hx hb dX4_isLinked_147 hl (k := 9) rfl (nI_1 _) (by decide) rfl (fun ls hl => ?_)
                        refine lv_goto (tgt := 71) hx hb dX4_isLinked_150 (by decide) ?_
                        exact ih2 (n2 + 1) 0 H locs ls (by omega) (by omega) (Or.inr ⟨rfl, fun k9 h9 => if h : k9 = n2 then h ▸ (by show (decide ((b.2.2.getD n2 (0, 0, 0)).1 = i0) && (decide ((b.2.2.getD n2 (0, 0, 0)).2.2 = j0) && underB (x.2.1 0) (b.2.2.getD n2 (0, 0, 0)).2.1 q.2.1)) = false; rw [hr]; exact hl_n1 (fun z => c_99 (by rw [z]))) else hv1 k9 (by omega)⟩) hW (lv_sub hl [2, 3, 4, 5, 6, 7, 8, 9, 1, 0] rfl)
                      · refine lv_aload_n hx hb dX4_isLinked_102 rfl (lv_at hl 2 rfl) ?_
                        refine gtN hF hW (ms_r hb1) (ci := 22) rfl in_X6 6 (by decide) (List.mem_of_getElem? (i := 13) rfl) rfl (v := .ref atb) rfl dX4_isLinked_103 ?_
                        refine lv_iload hx hb dX4_isLinked_106 (lv_at hl 9 rfl) ?_
                        refine al_i hF hW (ms_r hb6) 0 rfl (j := n2) (rfl) (by omega) (by decide) dX4_isLinked_108 ?_
                        refine lv_eqv (congrArg Value.int (show tfb n2 = nI r9.2.2 from hlb.2.2)) ?_
                        refine lv_aload_n hx hb dX4_isLinked_109 rfl (lv_at hl 0 rfl) ?_
                        refine gM0_goes hF hW q1134 dX4_isLinked_110 ?_
                        refine lv_iload hx hb dX4_isLinked_113 (lv_at hl 7 rfl) ?_
                        refine lM22 hF hW (j := q.2.2) (rfl) (by omega) (v := nI j0) ((hgo q.2.2 (by omega)).trans (by rw [hA2]; rfl)) dX4_isLinked_115 ?_
                        refine lv_icmp_ne (tgt := 144) hx hb dX4_isLinked_116 (by decide) (fun c_116 => ?_) (fun c_116 => ?_)
                        · refine lv_iconst (v := 0) hx hb dX4_isLinked_144 (by decide) ?_
                          refine lv_istore (lv' := [(8, .int 0), (0, .ref (ad 0)), (1, .ref pa), (2, .ref pb), (3, .int (nI k)), (4, .int 1), (5, .int (nI n)), (6, .int (nI q.1)), (7, .int (nI q.2.2)), (9, .int (nI n2))]) hx hb dX4_isLinked_145 hl (by decide) rfl (fun ls hl => ?_)
                          refine lv_iinc (v := nI (n2 + 1)) (lv' := [(9, .int (nI (n2 + 1))), (8, .int 0), (0, .ref (ad 0)), (1, .ref pa), (2, .ref pb), (3, .int (nI k)), (4, .int 1), (5, .int (nI n)), (6, .int (nI q.1)), (7, .int (nI q.2.2))]) hx hb dX4_isLinked_147 hl (k := 9) rfl (nI_1 _) (by decide) rfl (fun ls hl => ?_)
                          refine lv_goto (tgt := 71) hx hb dX4_isLinked_150 (by decide) ?_
                          exact ih2 (n2 + 1) 0 H locs ls (by omega) (by omega) (Or.inr ⟨rfl, fun k9 h9 => if h : k9 = n2 then h ▸ (by show (decide ((b.2.2.getD n2 (0, 0, 0)).1 = i0) && (decide ((b.2.2.getD n2 (0, 0, 0)).2.2 = j0) && underB (x.2.1 0) (b.2.2.getD n2 (0, 0, 0)).2.1 q.2.1)) = false; rw [hr]; exact hl_n2 (fun z => c_116 (by rw [z]))) else hv1 k9 (by omega)⟩) hW (lv_sub hl [2, 3, 4, 5, 6, 7, 8, 9, 1, 0] rfl)
                        · refine lv_aload_n hx hb dX4_isLinked_119 rfl (lv_at hl 0 rfl) ?_
                          refine lv_aload_n hx hb dX4_isLinked_120 rfl (lv_at hl 2 rfl) ?_
                          refine gtN hF hW (ms_r hb1) (ci := 22) rfl in_X6 5 (by decide) (List.mem_of_getElem? (i := 12) rfl) rfl (v := .ref avb) rfl dX4_isLinked_121 ?_
                          refine lv_iload hx hb dX4_isLinked_124 (lv_at hl 9 rfl) ?_
                          refine al_i hF hW (ms_r hb5) 0 rfl (j := n2) (rfl) (by omega) (by decide) dX4_isLinked_126 ?_
                          refine lv_eqv (congrArg Value.int (show vfb n2 = nI r9.2.1 from hlb.2.1)) ?_
                          refine lv_aload_n hx hb dX4_isLinked_127 rfl (lv_at hl 1 rfl) ?_
                          refine gtN hF hW (ms_r ha1) (ci := 22) rfl in_X6 5 (by decide) (List.mem_of_getElem? (i := 12) rfl) rfl (v := .ref ava) rfl dX4_isLinked_128 ?_
                          refine lv_iload hx hb dX4_isLinked_131 (lv_at hl 5 rfl) ?_
                          refine al_i hF hW (ms_r ha5) 0 rfl (j := n) (rfl) (by omega) (by decide) dX4_isLinked_133 ?_
                          refine lv_eqv (congrArg Value.int (show vfa n = nI q.2.1 from hlk.2.1)) ?_
                          refine cl_i (ru_V (As := [.int (nI r9.2.1), .int (nI q.2.1)]) (rest := []) hF (mX4_isUnder l G ad x T r9.2.1 q.2.1 nW hwd hW60 hlj.2.1 (by omega)) (cwV 2 hts (lw_V q1299 q1301 qs38 q66 q1302) rfl rfl rfl (by decide +kernel) ⟨lb hR1 rfl, lb hR4 rfl⟩) hW (List.mem_of_getElem? (i := 0) rfl) (ci := 20) rfl rfl rfl hl.1 rfl (lv_room (Nat.le_of_ble_eq_true rfl)) dX4_isLinked_134 ⟨by omega, by omega⟩) hW (fun r_1 u_2 H locs h_3 hW => ?_)
                          have hW : pM G (MWl G ad x ++ T) s _ _ := hW
                          rcases h_3 with ⟨rfl, b_134⟩ | ⟨rfl, b_134⟩
                          · refine lv_if_eq (tgt := 144) hx hb dX4_isLinked_137 (by decide) (fun c_137 => absurd c_137 (by decide)) (fun c_137 => ?_)
                            refine lv_iconst (v := 1) hx hb dX4_isLinked_140 (by decide) ?_
                            refine lv_goto (tgt := 145) hx hb dX4_isLinked_141 (by decide) ?_
                            refine lv_istore (lv' := [(8, .int 1), (0, .ref (ad 0)), (1, .ref pa), (2, .ref pb), (3, .int (nI k)), (4, .int 1), (5, .int (nI n)), (6, .int (nI q.1)), (7, .int (nI q.2.2)), (9, .int (nI n2))]) hx hb dX4_isLinked_145 hl (by decide) rfl (fun ls hl => ?_)
                            refine lv_iinc (v := nI (n2 + 1)) (lv' := [(9, .int (nI (n2 + 1))), (8, .int 1), (0, .ref (ad 0)), (1, .ref pa), (2, .ref pb), (3, .int (nI k)), (4, .int 1), (5, .int (nI n)), (6, .int (nI q.1)), (7, .int (nI q.2.2))]) hx hb dX4_isLinked_147 hl (k := 9) rfl (nI_1 _) (by decide) rfl (fun ls hl => ?_)
                            refine lv_goto (tgt := 71) hx hb dX4_isLinked_150 (by decide) ?_
                            exact W.widen (by omega) (by omega) (ih2 (n2 + 1) 1 H locs ls (by omega) (by omega) (Or.inl ⟨rfl, any_yes (d := (0, 0, 0)) hjl (by show (decide ((b.2.2.getD n2 (0, 0, 0)).1 = i0) && (decide ((b.2.2.getD n2 (0, 0, 0)).2.2 = j0) && underB (x.2.1 0) (b.2.2.getD n2 (0, 0, 0)).2.1 q.2.1)) = true; rw [hr]; exact hl_y (eq_eq c_99) (eq_eq c_116) b_134)⟩) hW (lv_sub hl [2, 3, 4, 5, 6, 7, 8, 9, 1, 0] rfl))
                          · refine lv_if_eq (tgt := 144) hx hb dX4_isLinked_137 (by decide) (fun c_137 => ?_) (fun c_137 => absurd c_137 (by decide))
                            refine lv_iconst (v := 0) hx hb dX4_isLinked_144 (by decide) ?_
                            refine lv_istore (lv' := [(8, .int 0), (0, .ref (ad 0)), (1, .ref pa), (2, .ref pb), (3, .int (nI k)), (4, .int 1), (5, .int (nI n)), (6, .int (nI q.1)), (7, .int (nI q.2.2)), (9, .int (nI n2))]) hx hb dX4_isLinked_145 hl (by decide) rfl (fun ls hl => ?_)
                            refine lv_iinc (v := nI (n2 + 1)) (lv' := [(9, .int (nI (n2 + 1))), (8, .int 0), (0, .ref (ad 0)), (1, .ref pa), (2, .ref pb), (3, .int (nI k)), (4, .int 1), (5, .int (nI n)), (6, .int (nI q.1)), (7, .int (nI q.2.2))]) hx hb dX4_isLinked_147 hl (k := 9) rfl (nI_1 _) (by decide) rfl (fun ls hl => ?_)
                            refine lv_goto (tgt := 71) hx hb dX4_isLinked_150 (by decide) ?_
                            exact W.widen (by omega) (by omega) (ih2 (n2 + 1) 0 H locs ls (by omega) (by omega) (Or.inr ⟨rfl, fun k9 h9 => if h : k9 = n2 then h ▸ (by show (decide ((b.2.2.getD n2 (0, 0, 0)).1 = i0) && (decide ((b.2.2.getD n2 (0, 0, 0)).2.2 = j0) && underB (x.2.1 0) (b.2.2.getD n2 (0, 0, 0)).2.1 q.2.1)) = false; rw [hr]; exact hl_n3 b_134) else hv1 k9 (by omega)⟩) hW (lv_sub hl [2, 3, 4, 5, 6, 7, 8, 9, 1, 0] rfl))
              exact loop_71 _ 0 0 _ _ _ (Nat.lt_succ_self _) (Nat.zero_le _) (Or.inr ⟨rfl, fun k9 h9 => absurd h9 (Nat.not_lt_zero _)⟩) hW (lv_sub hl [4, 5, 6, 7, 8, 9, 3, 2, 1, 0] rfl)
            · refine lv_iload hx hb dX4_isLinked_56 (lv_at hl 0 rfl) ?_
              refine lv_iload_n hx hb dX4_isLinked_58 rfl (lv_at hl 5 rfl) ?_
              refine lv_icmp_eq (tgt := 65) hx hb dX4_isLinked_59 (by decide) (fun c_59 => ?_) (fun c_59 => ?_)
              · obtain ⟨i0, hA1⟩ := hAs q.1 (by omega)
                obtain ⟨j0, hA2⟩ := hAs q.2.2 (by omega)
                have hi8 := hA8 _ _ hA1
                have hj8 := hA8 _ _ hA2
                refine lv_iconst (v := 0) hx hb dX4_isLinked_65 (by decide) ?_
                refine lv_istore (lv' := [(8, .int 0), (7, .int (nI q.2.2)), (6, .int (nI q.1)), (0, .ref (ad 0)), (1, .ref pa), (2, .ref pb), (3, .int (nI k)), (4, .int 1), (5, .int (nI n))]) hx hb dX4_isLinked_66 hl (by decide) rfl (fun ls hl => ?_)
                refine lv_iconst (v := 0) hx hb dX4_isLinked_68 (by decide) ?_
                refine lv_istore (lv' := [(9, .int 0), (8, .int 0), (7, .int (nI q.2.2)), (6, .int (nI q.1)), (0, .ref (ad 0)), (1, .ref pa), (2, .ref pb), (3, .int (nI k)), (4, .int 1), (5, .int (nI n))]) hx hb dX4_isLinked_69 hl (by decide) rfl (fun ls hl => ?_)
                have loop_71 : ∀ (nn2 : Nat) (n2 : Nat) (v : Int32) (H : Heap) (locs : List Loc) (ls : Array Slot), b.2.2.length - n2 < nn2 → (n2 ≤ b.2.2.length) → ((v = 1 ∧ hlB (x.2.1 0) b i0 q.2.1 j0 = true) ∨ (v = 0 ∧ ∀ k9, k9 < n2 → (fun l : Nat × Nat × Nat => decide (l.1 = i0) && (decide (l.2.2 = j0) && underB (x.2.1 0) l.2.1 q.2.1)) (b.2.2.getD k9 (0, 0, 0)) = false)) → pM G (MWl G ad x ++ T) s H locs → lv_has ls 10 [(0, .ref (ad 0)), (1, .ref pa), (2, .ref pb), (3, .int (nI k)), (4, .int 1), (5, .int (nI n)), (6, .int (nI q.1)), (7, .int (nI q.2.2)), (8, .int v), (9, .int (nI n2))] → W pp l ee R s m ([.ref (ad 0), .ref pa, .ref pb, .int (nI k)] : List Value).toArray below meth c H locs 0 0 Q (F0 m 71 ls []) := by
                  intro nn2
                  induction nn2 with
                  | zero => intro n2 v H locs ls hm; exact absurd hm (Nat.not_lt_zero _)
                  | succ nn2 ih2 =>
                    intro n2 v H locs ls hm hn2 hv hW hl
                    rcases hv with ⟨rfl, hv1⟩ | ⟨rfl, hv1⟩
                    · refine lv_iload hx hb dX4_isLinked_71 (lv_at hl 9 rfl) ?_
                      refine lv_aload_n hx hb dX4_isLinked_73 rfl (lv_at hl 2 rfl) ?_
                      refine gtN hF hW (ms_r hb1) (ci := 22) rfl in_X6 1 (by decide) (List.mem_of_getElem? (i := 8) rfl) rfl (v := .int (nI b.2.2.length)) rfl dX4_isLinked_74 ?_
                      refine lv_icmp_ge (tgt := 153) hx hb dX4_isLinked_77 (by decide) (fun c_77 => ?_) (fun c_77 => ?_)
                      · refine lv_iload hx hb dX4_isLinked_153 (lv_at hl 8 rfl) ?_
                        refine lv_istore (lv' := [(4, .int 1), (0, .ref (ad 0)), (1, .ref pa), (2, .ref pb), (3, .int (nI k)), (5, .int (nI n)), (6, .int (nI q.1)), (7, .int (nI q.2.2)), (8, .int 1), (9, .int (nI n2))]) hx hb dX4_isLinked_155 hl (by decide) rfl (fun ls hl => ?_)
                        refine lv_iinc (v := nI (n + 1)) (lv' := [(5, .int (nI (n + 1))), (4, .int 1), (0, .ref (ad 0)), (1, .ref pa), (2, .ref pb), (3, .int (nI k)), (6, .int (nI q.1)), (7, .int (nI q.2.2)), (8, .int 1), (9, .int (nI n2))]) hx hb dX4_isLinked_157 hl (k := 5) rfl (nI_1 _) (by decide) rfl (fun ls hl => ?_)
                        refine lv_goto (tgt := 6) hx hb dX4_isLinked_160 (by decide) ?_
                        exact ih (n + 1) H locs ls (by omega) (by omega) (fun k9 h9 => if h : k9 = n then h ▸ (by show lkP _ _ _ _ (a.2.2.getD n (0, 0, 0)) = true; rw [hq]; exact lk_y hA1 hA2 hv1) else hg k9 (by omega)) hW (lv_sub hl [2, 3, 4, 5, 1, 0] rfl)
                      · refine lv_iload hx hb dX4_isLinked_80 (lv_at hl 8 rfl) ?_
                        refine lv_if_ne (tgt := 140) hx hb dX4_isLinked_82 (by decide) (fun c_82 => ?_) (fun c_82 => absurd c_82 (by decide))
                        refine lv_iconst (v := 1) hx hb dX4_isLinked_140 (by decide) ?_
                        refine lv_goto (tgt := 145) hx hb dX4_isLinked_141 (by decide) ?_
                        refine lv_istore (lv' := [(8, .int 1), (0, .ref (ad 0)), (1, .ref pa), (2, .ref pb), (3, .int (nI k)), (4, .int 1), (5, .int (nI n)), (6, .int (nI q.1)), (7, .int (nI q.2.2)), (9, .int (nI n2))]) hx hb dX4_isLinked_145 hl (by decide) rfl (fun ls hl => ?_)
                        refine lv_iinc (v := nI (n2 + 1)) (lv' := [(9, .int (nI (n2 + 1))), (8, .int 1), (0, .ref (ad 0)), (1, .ref pa), (2, .ref pb), (3, .int (nI k)), (4, .int 1), (5, .int (nI n)), (6, .int (nI q.1)), (7, .int (nI q.2.2))]) hx hb dX4_isLinked_147 hl (k := 9) rfl (nI_1 _) (by decide) rfl (fun ls hl => ?_)
                        refine lv_goto (tgt := 71) hx hb dX4_isLinked_150 (by decide) ?_
                        exact ih2 (n2 + 1) 1 H locs ls (by have := nle_lt c_77; omega) (by have := nle_lt c_77; omega) (Or.inl ⟨rfl, hv1⟩) hW (lv_sub hl [2, 3, 4, 5, 6, 7, 8, 9, 1, 0] rfl)
                    · refine lv_iload hx hb dX4_isLinked_71 (lv_at hl 9 rfl) ?_
                      refine lv_aload_n hx hb dX4_isLinked_73 rfl (lv_at hl 2 rfl) ?_
                      refine gtN hF hW (ms_r hb1) (ci := 22) rfl in_X6 1 (by decide) (List.mem_of_getElem? (i := 8) rfl) rfl (v := .int (nI b.2.2.length)) rfl dX4_isLinked_74 ?_
                      refine lv_icmp_ge (tgt := 153) hx hb dX4_isLinked_77 (by decide) (fun c_77 => ?_) (fun c_77 => ?_)
                      · refine lv_iload hx hb dX4_isLinked_153 (lv_at hl 8 rfl) ?_
                        refine lv_istore (lv' := [(4, .int 0), (0, .ref (ad 0)), (1, .ref pa), (2, .ref pb), (3, .int (nI k)), (5, .int (nI n)), (6, .int (nI q.1)), (7, .int (nI q.2.2)), (8, .int 0), (9, .int (nI n2))]) hx hb dX4_isLinked_155 hl (by decide) rfl (fun ls hl => ?_)
                        refine lv_iinc (v := nI (n + 1)) (lv' := [(5, .int (nI (n + 1))), (4, .int 0), (0, .ref (ad 0)), (1, .ref pa), (2, .ref pb), (3, .int (nI k)), (6, .int (nI q.1)), (7, .int (nI q.2.2)), (8, .int 0), (9, .int (nI n2))]) hx hb dX4_isLinked_157 hl (k := 5) rfl (nI_1 _) (by decide) rfl (fun ls hl => ?_)
                        refine lv_goto (tgt := 6) hx hb dX4_isLinked_160 (by decide) ?_
                        refine lv_iload hx hb dX4_isLinked_6 (lv_at hl 0 rfl) ?_
                        refine lv_aload_n hx hb dX4_isLinked_8 rfl (lv_at hl 3 rfl) ?_
                        refine gtN hF hW (ms_r ha1) (ci := 22) rfl in_X6 1 (by decide) (List.mem_of_getElem? (i := 8) rfl) rfl (v := .int (nI a.2.2.length)) rfl dX4_isLinked_9 ?_
                        refine lv_icmp_ge (tgt := 163) hx hb dX4_isLinked_12 (by decide) (fun c_12 => ?_) (fun c_12 => ?_)
                        · refine lv_iload hx hb dX4_isLinked_163 (lv_at hl 1 rfl) ?_
                          exact re_z hF hRt hLk hQ (by omega) (by omega) (by decide) dX4_isLinked_165 () (Or.inr ⟨rfl, all_no (d := (0, 0, 0)) hkl (by show lkP _ _ _ _ (a.2.2.getD n (0, 0, 0)) = false; rw [hq]; exact lk_f (Or.inr (eq_eq c_59)) hA1 hA2 (any_no (d := (0, 0, 0)) (fun k9 h9 => hv1 k9 (by have := le_le c_77; omega))))⟩) hW
                        · refine lv_iload hx hb dX4_isLinked_15 (lv_at hl 1 rfl) ?_
                          refine lv_if_eq (tgt := 163) hx hb dX4_isLinked_17 (by decide) (fun c_17 => ?_) (fun c_17 => absurd c_17 (by decide))
                          refine lv_iload hx hb dX4_isLinked_163 (lv_at hl 1 rfl) ?_
                          exact re_z hF hRt hLk hQ (by omega) (by omega) (by decide) dX4_isLinked_165 () (Or.inr ⟨rfl, all_no (d := (0, 0, 0)) hkl (by show lkP _ _ _ _ (a.2.2.getD n (0, 0, 0)) = false; rw [hq]; exact lk_f (Or.inr (eq_eq c_59)) hA1 hA2 (any_no (d := (0, 0, 0)) (fun k9 h9 => hv1 k9 (by have := le_le c_77; omega))))⟩) hW
                      · have hjl : n2 < b.2.2.length := nle_lt c_77
                        have hlb := hb7.2 n2 hjl
                        have hlj := hokb.2.2.2.2.2 _ (getD_mem (d := (0, 0, 0)) hjl)
                        generalize hr : b.2.2.getD n2 (0, 0, 0) = r9 at hlb hlj
                        refine lv_iload hx hb dX4_isLinked_80 (lv_at hl 8 rfl) ?_
                        refine lv_if_ne (tgt := 140) hx hb dX4_isLinked_82 (by decide) (fun c_82 => absurd c_82 (by decide)) (fun c_82 => ?_)
                        refine lv_aload_n hx hb dX4_isLinked_85 rfl (lv_at hl 2 rfl) ?_
                        refine gtN hF hW (ms_r hb1) (ci := 22) rfl in_X6 4 (by decide) (List.mem_of_getElem? (i := 11) rfl) rfl (v := .ref afb) rfl dX4_isLinked_86 ?_
                        refine lv_iload hx hb dX4_isLinked_89 (lv_at hl 9 rfl) ?_
                        refine al_i hF hW (ms_r hb4) 0 rfl (j := n2) (rfl) (by omega) (by decide) dX4_isLinked_91 ?_
                        refine lv_eqv (congrArg Value.int (show ffb n2 = nI r9.1 from hlb.1)) ?_
                        refine lv_aload_n hx hb dX4_isLinked_92 rfl (lv_at hl 0 rfl) ?_
                        refine gM0_goes hF hW q1134 dX4_isLinked_93 ?_
                        refine lv_iload hx hb dX4_isLinked_96 (lv_at hl 6 rfl) ?_
                        refine lM22 hF hW (j := q.1) (rfl) (by omega) (v := nI i0) ((hgo q.1 (by omega)).trans (by rw [hA1]; rfl)) dX4_isLinked_98 ?_
                        refine lv_icmp_ne (tgt := 144) hx hb dX4_isLinked_99 (by decide) (fun c_99 => ?_) (fun c_99 => ?_)
                        · refine lv_iconst (v := 0) hx hb dX4_isLinked_144 (by decide) ?_
                          refine lv_istore (lv' := [(8, .int 0), (0, .ref (ad 0)), (1, .ref pa), (2, .ref pb), (3, .int (nI k)), (4, .int 1), (5, .int (nI n)), (6, .int (nI q.1)), (7, .int (nI q.2.2)), (9, .int (nI n2))]) hx hb dX4_isLinked_145 hl (by decide) rfl (fun ls hl => ?_)
                          refine lv_iinc (v := nI (n2 + 1)) (lv' := [(9, .int (nI (n2 + 1))), (8, .int 0), (0, .ref (ad 0)), (1, .ref pa), (2, .ref pb), (3, .int (nI k)), (4, .int 1), (5, .int (nI n)), (6, .int (nI q.1)), (7, .int (nI q.2.2))]) hx hb dX4_isLinked_147 hl (k := 9) rfl (nI_1 _) (by decide) rfl (fun ls hl => ?_)
                          refine lv_goto (tgt := 71) hx hb dX4_isLinked_150 (by decide) ?_
                          exact ih2 (n2 + 1) 0 H locs ls (by omega) (by omega) (Or.inr ⟨rfl, fun k9 h9 => if h : k9 = n2 then h ▸ (by show (decide ((b.2.2.getD n2 (0, 0, 0)).1 = i0) && (decide ((b.2.2.getD n2 (0, 0, 0)).2.2 = j0) && underB (x.2.1 0) (b.2.2.getD n2 (0, 0, 0)).2.1 q.2.1)) = false; rw [hr]; exact hl_n1 (fun z => c_99 (by rw [z]))) else hv1 k9 (by omega)⟩) hW (lv_sub hl [2, 3, 4, 5, 6, 7, 8, 9, 1, 0] rfl)
                        · refine lv_aload_n hx hb dX4_isLinked_102 rfl (lv_at hl 2 rfl) ?_
                          refine gtN hF hW (ms_r hb1) (ci := 22) rfl in_X6 6 (by decide) (List.mem_of_getElem? (i := 13) rfl) rfl (v := .ref atb) rfl dX4_isLinked_103 ?_
                          refine lv_iload hx hb dX4_isLinked_106 (lv_at hl 9 rfl) ?_
                          refine al_i hF hW (ms_r hb6) 0 rfl (j := n2) (rfl) (by omega) (by decide) dX4_isLinked_108 ?_
                          refine lv_eqv (congrArg Value.int (show tfb n2 = nI r9.2.2 from hlb.2.2)) ?_
                          refine lv_aload_n hx hb dX4_isLinked_109 rfl (lv_at hl 0 rfl) ?_
                          refine gM0_goes hF hW q1134 dX4_isLinked_110 ?_
                          refine lv_iload hx hb dX4_isLinked_113 (lv_at hl 7 rfl) ?_
                          refine lM22 hF hW (j := q.2.2) (rfl) (by omega) (v := nI j0) ((hgo q.2.2 (by omega)).trans (by rw [hA2]; rfl)) dX4_isLinked_115 ?_
                          refine lv_icmp_ne (tgt := 144) hx hb dX4_isLinked_116 (by decide) (fun c_116 => ?_) (fun c_116 => ?_)
                          · refine lv_iconst (v := 0) hx hb dX4_isLinked_144 (by decide) ?_
                            refine lv_istore (lv' := [(8, .int 0), (0, .ref (ad 0)), (1, .ref pa), (2, .ref pb), (3, .int (nI k)), (4, .int 1), (5, .int (nI n)), (6, .int (nI q.1)), (7, .int (nI q.2.2)), (9, .int (nI n2))]) hx hb dX4_isLinked_145 hl (by decide) rfl (fun ls hl => ?_)
                            refine lv_iinc (v := nI (n2 + 1)) (lv' := [(9, .int (nI (n2 + 1))), (8, .int 0), (0, .ref (ad 0)), (1, .ref pa), (2, .ref pb), (3, .int (nI k)), (4, .int 1), (5, .int (nI n)), (6, .int (nI q.1)), (7, .int (nI q.2.2))]) hx hb dX4_isLinked_147 hl (k := 9) rfl (nI_1 _) (by decide) rfl (fun ls hl => ?_)
                            refine lv_goto (tgt := 71) hx hb dX4_isLinked_150 (by decide) ?_
                            exact ih2 (n2 + 1) 0 H locs ls (by omega) (by omega) (Or.inr ⟨rfl, fun k9 h9 => if h : k9 = n2 then h ▸ (by show (decide ((b.2.2.getD n2 (0, 0, 0)).1 = i0) && (decide ((b.2.2.getD n2 (0, 0, 0)).2.2 = j0) && underB (x.2.1 0) (b.2.2.getD n2 (0, 0, 0)).2.1 q.2.1)) = false; rw [hr]; exact hl_n2 (fun z => c_116 (by rw [z]))) else hv1 k9 (by omega)⟩) hW (lv_sub hl [2, 3, 4, 5, 6, 7, 8, 9, 1, 0] rfl)
                          · refine lv_aload_n hx hb dX4_isLinked_119 rfl (lv_at hl 0 rfl) ?_
                            refine lv_aload_n hx hb dX4_isLinked_120 rfl (lv_at hl 2 rfl) ?_
                            refine gtN hF hW (ms_r hb1) (ci := 22) rfl in_X6 5 (by decide) (List.mem_of_getElem? (i := 12) rfl) rfl (v := .ref avb) rfl dX4_isLinked_121 ?_
                            refine lv_iload hx hb dX4_isLinked_124 (lv_at hl 9 rfl) ?_
                            refine al_i hF hW (ms_r hb5) 0 rfl (j := n2) (rfl) (by omega) (by decide) dX4_isLinked_126 ?_
                            refine lv_eqv (congrArg Value.int (show vfb n2 = nI r9.2.1 from hlb.2.1)) ?_
                            refine lv_aload_n hx hb dX4_isLinked_127 rfl (lv_at hl 1 rfl) ?_
                            refine gtN hF hW (ms_r ha1) (ci := 22) rfl in_X6 5 (by decide) (List.mem_of_getElem? (i := 12) rfl) rfl (v := .ref ava) rfl dX4_isLinked_128 ?_
                            refine lv_iload hx hb dX4_isLinked_131 (lv_at hl 5 rfl) ?_
                            refine al_i hF hW (ms_r ha5) 0 rfl (j := n) (rfl) (by omega) (by decide) dX4_isLinked_133 ?_
                            refine lv_eqv (congrArg Value.int (show vfa n = nI q.2.1 from hlk.2.1)) ?_
                            refine cl_i (ru_V (As := [.int (nI r9.2.1), .int (nI q.2.1)]) (rest := []) hF (mX4_isUnder l G ad x T r9.2.1 q.2.1 nW hwd hW60 hlj.2.1 (by omega)) (cwV 2 hts (lw_V q1299 q1301 qs38 q66 q1302) rfl rfl rfl (by decide +kernel) ⟨lb hR1 rfl, lb hR4 rfl⟩) hW (List.mem_of_getElem? (i := 0) rfl) (ci := 20) rfl rfl rfl hl.1 rfl (lv_room (Nat.le_of_ble_eq_true rfl)) dX4_isLinked_134 ⟨by omega, by omega⟩) hW (fun r_4 u_5 H locs h_6 hW => ?_)
                            have hW : pM G (MWl G ad x ++ T) s _ _ := hW
                            rcases h_6 with ⟨rfl, b_134⟩ | ⟨rfl, b_134⟩
                            · refine lv_if_eq (tgt := 144) hx hb dX4_isLinked_137 (by decide) (fun c_137 => absurd c_137 (by decide)) (fun c_137 => ?_)
                              refine lv_iconst (v := 1) hx hb dX4_isLinked_140 (by decide) ?_
                              refine lv_goto (tgt := 145) hx hb dX4_isLinked_141 (by decide) ?_
                              refine lv_istore (lv' := [(8, .int 1), (0, .ref (ad 0)), (1, .ref pa), (2, .ref pb), (3, .int (nI k)), (4, .int 1), (5, .int (nI n)), (6, .int (nI q.1)), (7, .int (nI q.2.2)), (9, .int (nI n2))]) hx hb dX4_isLinked_145 hl (by decide) rfl (fun ls hl => ?_)
                              refine lv_iinc (v := nI (n2 + 1)) (lv' := [(9, .int (nI (n2 + 1))), (8, .int 1), (0, .ref (ad 0)), (1, .ref pa), (2, .ref pb), (3, .int (nI k)), (4, .int 1), (5, .int (nI n)), (6, .int (nI q.1)), (7, .int (nI q.2.2))]) hx hb dX4_isLinked_147 hl (k := 9) rfl (nI_1 _) (by decide) rfl (fun ls hl => ?_)
                              refine lv_goto (tgt := 71) hx hb dX4_isLinked_150 (by decide) ?_
                              exact W.widen (by omega) (by omega) (ih2 (n2 + 1) 1 H locs ls (by omega) (by omega) (Or.inl ⟨rfl, any_yes (d := (0, 0, 0)) hjl (by show (decide ((b.2.2.getD n2 (0, 0, 0)).1 = i0) && (decide ((b.2.2.getD n2 (0, 0, 0)).2.2 = j0) && underB (x.2.1 0) (b.2.2.getD n2 (0, 0, 0)).2.1 q.2.1)) = true; rw [hr]; exact hl_y (eq_eq c_99) (eq_eq c_116) b_134)⟩) hW (lv_sub hl [2, 3, 4, 5, 6, 7, 8, 9, 1, 0] rfl))
                            · refine lv_if_eq (tgt := 144) hx hb dX4_isLinked_137 (by decide) (fun c_137 => ?_) (fun c_137 => absurd c_137 (by decide))
                              refine lv_iconst (v := 0) hx hb dX4_isLinked_144 (by decide) ?_
                              refine lv_istore (lv' := [(8, .int 0), (0, .ref (ad 0)), (1, .ref pa), (2, .ref pb), (3, .int (nI k)), (4, .int 1), (5, .int (nI n)), (6, .int (nI q.1)), (7, .int (nI q.2.2)), (9, .int (nI n2))]) hx hb dX4_isLinked_145 hl (by decide) rfl (fun ls hl => ?_)
                              refine lv_iinc (v := nI (n2 + 1)) (lv' := [(9, .int (nI (n2 + 1))), (8, .int 0), (0, .ref (ad 0)), (1, .ref pa), (2, .ref pb), (3, .int (nI k)), (4, .int 1), (5, .int (nI n)), (6, .int (nI q.1)), (7, .int (nI q.2.2))]) hx hb dX4_isLinked_147 hl (k := 9) rfl (nI_1 _) (by decide) rfl (fun ls hl => ?_)
                              refine lv_goto (tgt := 71) hx hb dX4_isLinked_150 (by decide) ?_
                              exact W.widen (by omega) (by omega) (ih2 (n2 + 1) 0 H locs ls (by omega) (by omega) (Or.inr ⟨rfl, fun k9 h9 => if h : k9 = n2 then h ▸ (by show (decide ((b.2.2.getD n2 (0, 0, 0)).1 = i0) && (decide ((b.2.2.getD n2 (0, 0, 0)).2.2 = j0) && underB (x.2.1 0) (b.2.2.getD n2 (0, 0, 0)).2.1 q.2.1)) = false; rw [hr]; exact hl_n3 b_134) else hv1 k9 (by omega)⟩) hW (lv_sub hl [2, 3, 4, 5, 6, 7, 8, 9, 1, 0] rfl))
                exact loop_71 _ 0 0 _ _ _ (Nat.lt_succ_self _) (Nat.zero_le _) (Or.inr ⟨rfl, fun k9 h9 => absurd h9 (Nat.not_lt_zero _)⟩) hW (lv_sub hl [4, 5, 6, 7, 8, 9, 3, 2, 1, 0] rfl)
              · refine lv_goto (tgt := 157) hx hb dX4_isLinked_62 (by decide) ?_
                refine lv_iinc (v := nI (n + 1)) (lv' := [(5, .int (nI (n + 1))), (7, .int (nI q.2.2)), (6, .int (nI q.1)), (0, .ref (ad 0)), (1, .ref pa), (2, .ref pb), (3, .int (nI k)), (4, .int 1)]) hx hb dX4_isLinked_157 hl (k := 7) rfl (nI_1 _) (by decide) rfl (fun ls hl => ?_)
                refine lv_goto (tgt := 6) hx hb dX4_isLinked_160 (by decide) ?_
                exact ih (n + 1) H locs ls (by omega) (by omega) (fun k9 h9 => if h : k9 = n then h ▸ (by show lkP _ _ _ _ (a.2.2.getD n (0, 0, 0)) = true; rw [hq]; exact lk_n (fun z => c_53 (by rw [z])) (fun z => c_59 (by rw [z]))) else hg k9 (by omega)) hW (lv_sub hl [3, 4, 5, 6, 7, 0] rfl)
  exact loop_6 _ 0 _ _ _ (Nat.lt_succ_self _) (Nat.zero_le _) (fun k9 h9 => absurd h9 (Nat.not_lt_zero _)) hW (lv_sub hl [2, 3, 4, 5, 1, 0] rfl)
