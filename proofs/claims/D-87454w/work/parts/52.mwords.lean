/-! words as numbers -/
def WfW (u : List Nat) : Prop := u.length ≤ 10 ∧ ∀ c ∈ u, 97 ≤ c ∧ c ≤ 122
theorem encN_lt : ∀ (k : Nat) (u : List Nat), u.length = k → (∀ c ∈ u, 97 ≤ c ∧ c ≤ 122) → encN u < 32 ^ k := by
  intro k
  induction k with
  | zero => intro u h _; rw [List.length_eq_zero_iff.mp h]; decide
  | succ k ih =>
    intro u h hc
    rcases List.eq_nil_or_concat u with e | ⟨v, c, e⟩
    · rw [e] at h; cases h
    · rw [List.concat_eq_append] at e
      subst e
      rw [List.length_append] at h
      have hv := ih v (by simpa using h) (fun c' h' => hc c' (List.mem_append_left _ h'))
      have hcc := hc c (List.mem_append_right _ List.mem_cons_self)
      rw [encN_app, Nat.pow_succ]
      omega
theorem encN_inj : ∀ (k : Nat) (u v : List Nat), u.length = k → (∀ c ∈ u, 97 ≤ c ∧ c ≤ 122) → (∀ c ∈ v, 97 ≤ c ∧ c ≤ 122) → encN u = encN v → u = v := by
  intro k
  induction k with
  | zero =>
    intro u v h _ hv e
    have hu : u = [] := List.length_eq_zero_iff.mp h
    subst hu
    rcases List.eq_nil_or_concat v with z | ⟨v', d, z⟩
    · exact z.symm
    · rw [List.concat_eq_append] at z
      subst z
      have hd := hv d (List.mem_append_right _ List.mem_cons_self)
      rw [encN_app] at e
      have : encN [] = 0 := rfl
      omega
  | succ k ih =>
    intro u v h hu hv e
    rcases List.eq_nil_or_concat u with z | ⟨u', c, z⟩
    · rw [z] at h; cases h
    · rw [List.concat_eq_append] at z
      subst z
      have hcc := hu c (List.mem_append_right _ List.mem_cons_self)
      rw [encN_app] at e
      rcases List.eq_nil_or_concat v with z | ⟨v', d, z⟩
      · subst z
        have : encN [] = 0 := rfl
        omega
      · rw [List.concat_eq_append] at z
        subst z
        have hd := hv d (List.mem_append_right _ List.mem_cons_self)
        rw [encN_app] at e
        rw [List.length_append] at h
        have e1 : encN u' = encN v' := by omega
        have e2 : c = d := by omega
        rw [e2, ih u' v' (by simpa using h) (fun q h' => hu q (List.mem_append_left _ h')) (fun q h' => hv q (List.mem_append_left _ h')) e1]
theorem lN_inj {a b : Nat} (ha : a < 2 ^ 63) (hb : b < 2 ^ 63) (h : lN a = lN b) : a = b := by
  have h2 : (lN a).toBitVec.toNat = (lN b).toBitVec.toNat := by rw [h]
  have e : ∀ k : Nat, k < 2 ^ 63 → (lN k).toBitVec.toNat = k := by
    intro k hk
    show (BitVec.ofNat 64 k).toNat = k
    rw [BitVec.toNat_ofNat]
    exact Nat.mod_eq_of_lt (by omega)
  rw [e a ha, e b hb] at h2
  exact h2
theorem encL_inj {u v : List Nat} (hu : WfW u) (hv : WfW v) : encL u = encL v ↔ u = v := by
  refine ⟨fun h => ?_, fun h => by rw [h]⟩
  have b : ∀ w, WfW w → encN w < 2 ^ 63 := by
    intro w hw
    have h1 := encN_lt _ w rfl hw.2
    have h2 : 32 ^ w.length ≤ 32 ^ 10 := Nat.pow_le_pow_right (by omega) hw.1
    have h3 : (32 : Nat) ^ 10 = 1125899906842624 := by decide
    omega
  exact encN_inj _ u v rfl hu.2 hv.2 (lN_inj (b u hu) (b v hv) h)
theorem wnd_all (f : Nat → Int32) (n : Nat) : ∀ g k q, k ≤ q → q < wnd f n g k → isL (cod (f q))
  | 0, k, q, h1, h2 => absurd h2 (by show ¬ q < k; omega)
  | g + 1, k, q, h1, h2 => by
    by_cases z : k < n ∧ isL (cod (f k))
    · have h2 : q < wnd f n g (k + 1) := by
        have : wnd f n (g + 1) k = wnd f n g (k + 1) := if_pos z
        rw [← this]; exact h2
      by_cases e : q = k
      · rw [e]; exact z.2
      · exact wnd_all f n g (k + 1) q (by omega) h2
    · have : wnd f n (g + 1) k = k := if_neg z
      rw [this] at h2
      omega
theorem tkW_wf {f : Nat → Int32} {n e : Nat} (h : tkK f n e = 2) : WfW (tkW f n e) := by
  unfold tkK at h
  have h1 : skA f n e < n := by
    by_cases z : skA f n e < n
    · exact z
    · rw [if_neg z] at h; cases h
  rw [if_pos h1] at h
  have h2 : isL (cod (f (skA f n e))) := by
    by_cases z : isL (cod (f (skA f n e)))
    · exact z
    · rw [if_neg z] at h
      split at h
      · cases h
      · split at h <;> cases h
  rw [if_pos h2] at h
  have h3 : wnA f n (skA f n e) - skA f n e ≤ 10 := by
    by_cases z : wnA f n (skA f n e) - skA f n e ≤ 10
    · exact z
    · rw [if_neg z] at h; cases h
  refine ⟨by unfold tkW; rw [List.length_map, List.length_range]; exact h3, fun c hc => ?_⟩
  unfold tkW at hc
  obtain ⟨i, hi, rfl⟩ := List.mem_map.mp hc
  rw [List.mem_range] at hi
  exact wnd_all f n _ _ _ (by omega) (show skA f n e + i < wnA f n (skA f n e) by omega)
abbrev Lrep (la : Nat → Int64) (wds : List (List Nat)) : Prop := ∀ k, k < wds.length → la k = encL (wds.getD k []) ∧ WfW (wds.getD k [])

set_option maxRecDepth 100000 in
set_option maxHeartbeats 4000000 in
theorem mX4_wordOf (l : Launch) (G : pG) (ad : Nat → Nat) (x : XV) (T : va_W) (wds : List (List Nat)) (nm : List Nat) (hw : Lrep (x.2.2.2.2.2 0) wds) (hwf : WfW nm) (hnw : wds.length ≤ 60) (h1 : x.1 4 = nI wds.length) : Met l yX4_wordOf (ws_ yX4_wordOf cX4_wordOf 4 (some .int)) ({ frames := 0, cells := 0, slots := 0, locals := 0 } : Room) (va_Pc [.ref (ad 0), .long (encL nm)] (fun U => pW G (MWl G ad x ++ T) U)) (va_Qi (fun r (_ : Unit) => (∃ k, k < wds.length ∧ wds.getD k [] = nm ∧ r = nI k) ∨ ((∀ k, k < wds.length → wds.getD k [] ≠ nm) ∧ r = -1)) (fun (u : Unit) t9 => pW G (MWl G ad x ++ T) t9) (pA G)) 0 0 (pA G) := by
  refine mw (by decide) (Nat.le_of_ble_eq_true rfl) ?_
  intro pp ee R s m below meth c ls Q hF hRt hLk hnm hR hQ hW hl
  have hx := hF.1
  have hb := hF.2.1
  have hts := hF.2.2.2.2
  have hR1 : R.frames = 0 := by rw [hR]
  have hR2 : R.cells = 0 := by rw [hR]
  have hR3 : R.slots = 0 := by rw [hR]
  have hR4 : R.locals = 0 := by rw [hR]
  have hl : lv_has ls 4 [(0, .ref (ad 0)), (1, .long (encL nm))] := hl
  have hW : pM G (MWl G ad x ++ T) s s.heap [] := hW
  refine lv_iconst (v := 0) hx hb dX4_wordOf_0 (by decide) ?_
  refine lv_istore_n (lv' := [(3, .int 0), (0, .ref (ad 0)), (1, .long (encL nm))]) hx hb dX4_wordOf_1 rfl hl (by decide) rfl (fun ls hl => ?_)
  have loop_2 : ∀ (nn : Nat) (k : Nat) (H : Heap) (locs : List Loc) (ls : Array Slot), wds.length - k < nn → (k ≤ wds.length) → (∀ j, j < k → wds.getD j [] ≠ nm) → pM G (MWl G ad x ++ T) s H locs → lv_has ls 4 [(0, .ref (ad 0)), (1, .long (encL nm)), (3, .int (nI k))] → W pp l ee R s m ([.ref (ad 0), .long (encL nm)] : List Value).toArray below meth c H locs 0 0 Q (F0 m 2 ls []) := by
    intro nn
    induction nn with
    | zero => intro k H locs ls hm; exact absurd hm (Nat.not_lt_zero _)
    | succ nn ih =>
      intro k H locs ls hm hk hg hW hl
      refine lv_iload_n hx hb dX4_wordOf_2 rfl (lv_at hl 2 rfl) ?_
      refine lv_aload_n hx hb dX4_wordOf_3 rfl (lv_at hl 0 rfl) ?_
      refine gM0_words hF hW q1099 (v := nI wds.length) (h1) dX4_wordOf_4 ?_
      refine lv_icmp_ge (tgt := 27) hx hb dX4_wordOf_7 (by decide) (fun c_7 => ?_) (fun c_7 => ?_)
      · refine lv_iload_n hx hb dX4_wordOf_27 rfl (lv_at hl 2 rfl) ?_
        refine lv_aload_n hx hb dX4_wordOf_28 rfl (lv_at hl 0 rfl) ?_
        refine gM0_words hF hW q1099 (v := nI wds.length) (h1) dX4_wordOf_29 ?_
        refine lv_icmp_ge (tgt := 39) hx hb dX4_wordOf_32 (by decide) (fun c_32 => ?_) (fun c_32 => absurd c_7 c_32)
        refine lv_iconst (v := (-1)) hx hb dX4_wordOf_39 (by decide) ?_
        exact re_i hF hRt hLk hQ (by omega) (by omega) dX4_wordOf_40 () (Or.inr ⟨fun j hj => hg j (by have := le_le c_7; omega), rfl⟩) hW
      · have hkl : k < wds.length := nle_lt c_7
        refine lv_aload_n hx hb dX4_wordOf_10 rfl (lv_at hl 0 rfl) ?_
        refine gM0_wordName hF hW q1105 dX4_wordOf_11 ?_
        refine lv_iload_n hx hb dX4_wordOf_14 rfl (lv_at hl 2 rfl) ?_
        refine lM1 hF hW (j := k) (rfl) (by omega) (v := encL (wds.getD k [])) ((hw k hkl).1) dX4_wordOf_15 ?_
        refine lv_lload_n hx hb dX4_wordOf_16 rfl (lv_at hl 1 rfl) ?_
        refine W.lcmp hx hb dX4_wordOf_17 ?_
        refine lv_if_eq (tgt := 27) hx hb dX4_wordOf_18 (by decide) (fun c_18 => ?_) (fun c_18 => ?_)
        · have heq : wds.getD k [] = nm := (encL_inj (hw k hkl).2 hwf).mp ((lg_cmp_eq _ _).mp c_18)
          refine lv_iload_n hx hb dX4_wordOf_27 rfl (lv_at hl 2 rfl) ?_
          refine lv_aload_n hx hb dX4_wordOf_28 rfl (lv_at hl 0 rfl) ?_
          refine gM0_words hF hW q1099 (v := nI wds.length) (h1) dX4_wordOf_29 ?_
          refine lv_icmp_ge (tgt := 39) hx hb dX4_wordOf_32 (by decide) (fun c_32 => absurd c_32 (nI_ge hkl (by omega))) (fun c_32 => ?_)
          refine lv_iload_n hx hb dX4_wordOf_35 rfl (lv_at hl 2 rfl) ?_
          refine lv_goto (tgt := 40) hx hb dX4_wordOf_36 (by decide) ?_
          exact re_i hF hRt hLk hQ (by omega) (by omega) dX4_wordOf_40 () (Or.inl ⟨k, hkl, heq, rfl⟩) hW
        · have heq : ¬ wds.getD k [] = nm := fun z => c_18 ((lg_cmp_eq _ _).mpr ((encL_inj (hw k hkl).2 hwf).mpr z))
          refine lv_iinc (v := nI (k + 1)) (lv' := [(3, .int (nI (k + 1))), (0, .ref (ad 0)), (1, .long (encL nm))]) hx hb dX4_wordOf_21 hl (k := 2) rfl (nI_1 _) (by decide) rfl (fun ls hl => ?_)
          refine lv_goto (tgt := 2) hx hb dX4_wordOf_24 (by decide) ?_
          exact ih (k + 1) H locs ls (by omega) (by omega) (fun j hj => if h : j = k then h ▸ heq else hg j (by omega)) hW (lv_sub hl [1, 2, 0] rfl)
  exact loop_2 _ 0 _ _ _ (Nat.lt_succ_self _) (Nat.zero_le _) (fun j hj => absurd hj (Nat.not_lt_zero j)) hW (lv_sub hl [1, 2, 0] rfl)

set_option maxRecDepth 100000 in
set_option maxHeartbeats 4000000 in
theorem mX6_find (l : Launch) (G : pG) (Z Y : va_W) (a an aw af av at_ nl : Nat) (nf : Nat → Int64) (wf ff vf tf : Nat → Int32) (wds : List (List Nat)) (nm : List Nat) (hw : Lrep nf wds) (hwf : WfW nm) (hnw : wds.length ≤ 8) : Met l yX6_find (ws_ yX6_find cX6_find 4 (some .int)) ({ frames := 0, cells := 0, slots := 0, locals := 0 } : Room) (va_Pc [.ref a, .long (encL nm)] (fun U => pW G (Z ++ ((a, .inr (22, [.int (nI wds.length), .int (nI nl), .ref an, .ref aw, .ref af, .ref av, .ref at_])) :: (an, .inl (G.2.2.1 3, 8, .inr (.inl nf))) :: (aw, .inl (G.2.2.1 0, 8, .inl wf)) :: (af, .inl (G.2.2.1 0, 10, .inl ff)) :: (av, .inl (G.2.2.1 0, 10, .inl vf)) :: (at_, .inl (G.2.2.1 0, 10, .inl tf)) :: Y)) U)) (va_Qi (fun r (_ : Unit) => (∃ k, k < wds.length ∧ wds.getD k [] = nm ∧ r = nI k) ∨ ((∀ k, k < wds.length → wds.getD k [] ≠ nm) ∧ r = -1)) (fun (u : Unit) t9 => pW G (Z ++ ((a, .inr (22, [.int (nI wds.length), .int (nI nl), .ref an, .ref aw, .ref af, .ref av, .ref at_])) :: (an, .inl (G.2.2.1 3, 8, .inr (.inl nf))) :: (aw, .inl (G.2.2.1 0, 8, .inl wf)) :: (af, .inl (G.2.2.1 0, 10, .inl ff)) :: (av, .inl (G.2.2.1 0, 10, .inl vf)) :: (at_, .inl (G.2.2.1 0, 10, .inl tf)) :: Y)) t9) (pA G)) 0 0 (pA G) := by
  refine mw (by decide) (Nat.le_of_ble_eq_true rfl) ?_
  intro pp ee R s m below meth c ls Q hF hRt hLk hnm hR hQ hW hl
  have hx := hF.1
  have hb := hF.2.1
  have hts := hF.2.2.2.2
  have hR1 : R.frames = 0 := by rw [hR]
  have hR2 : R.cells = 0 := by rw [hR]
  have hR3 : R.slots = 0 := by rw [hR]
  have hR4 : R.locals = 0 := by rw [hR]
  have hl : lv_has ls 4 [(0, .ref a), (1, .long (encL nm))] := hl
  have hW : pM G (Z ++ ((a, .inr (22, [.int (nI wds.length), .int (nI nl), .ref an, .ref aw, .ref af, .ref av, .ref at_])) :: (an, .inl (G.2.2.1 3, 8, .inr (.inl nf))) :: (aw, .inl (G.2.2.1 0, 8, .inl wf)) :: (af, .inl (G.2.2.1 0, 10, .inl ff)) :: (av, .inl (G.2.2.1 0, 10, .inl vf)) :: (at_, .inl (G.2.2.1 0, 10, .inl tf)) :: Y)) s s.heap [] := hW
  refine lv_iconst (v := 0) hx hb dX6_find_0 (by decide) ?_
  refine lv_istore_n (lv' := [(3, .int 0), (0, .ref a), (1, .long (encL nm))]) hx hb dX6_find_1 rfl hl (by decide) rfl (fun ls hl => ?_)
  have loop_2 : ∀ (nn : Nat) (k : Nat) (H : Heap) (locs : List Loc) (ls : Array Slot), wds.length - k < nn → (k ≤ wds.length) → (∀ j, j < k → wds.getD j [] ≠ nm) → pM G (Z ++ ((a, .inr (22, [.int (nI wds.length), .int (nI nl), .ref an, .ref aw, .ref af, .ref av, .ref at_])) :: (an, .inl (G.2.2.1 3, 8, .inr (.inl nf))) :: (aw, .inl (G.2.2.1 0, 8, .inl wf)) :: (af, .inl (G.2.2.1 0, 10, .inl ff)) :: (av, .inl (G.2.2.1 0, 10, .inl vf)) :: (at_, .inl (G.2.2.1 0, 10, .inl tf)) :: Y)) s H locs → lv_has ls 4 [(0, .ref a), (1, .long (encL nm)), (3, .int (nI k))] → W pp l ee R s m ([.ref a, .long (encL nm)] : List Value).toArray below meth c H locs 0 0 Q (F0 m 2 ls []) := by
    intro nn
    induction nn with
    | zero => intro k H locs ls hm; exact absurd hm (Nat.not_lt_zero _)
    | succ nn ih =>
      intro k H locs ls hm hk hg hW hl
      refine lv_iload_n hx hb dX6_find_2 rfl (lv_at hl 2 rfl) ?_
      refine lv_aload_n hx hb dX6_find_3 rfl (lv_at hl 0 rfl) ?_
      refine gt hF hW (ms_r (List.mem_of_getElem? (i := 0) rfl)) (ci := 22) rfl in_X6 0 (by decide) q1066 rfl (v := .int (nI wds.length)) rfl dX6_find_4 ?_
      refine lv_icmp_ge (tgt := 27) hx hb dX6_find_7 (by decide) (fun c_7 => ?_) (fun c_7 => ?_)
      · refine lv_iload_n hx hb dX6_find_27 rfl (lv_at hl 2 rfl) ?_
        refine lv_aload_n hx hb dX6_find_28 rfl (lv_at hl 0 rfl) ?_
        refine gt hF hW (ms_r (List.mem_of_getElem? (i := 0) rfl)) (ci := 22) rfl in_X6 0 (by decide) q1066 rfl (v := .int (nI wds.length)) rfl dX6_find_29 ?_
        refine lv_icmp_ge (tgt := 39) hx hb dX6_find_32 (by decide) (fun c_32 => ?_) (fun c_32 => absurd c_7 c_32)
        refine lv_iconst (v := (-1)) hx hb dX6_find_39 (by decide) ?_
        exact re_i hF hRt hLk hQ (by omega) (by omega) dX6_find_40 () (Or.inr ⟨fun j hj => hg j (by have := le_le c_7; omega), rfl⟩) hW
      · have hkl : k < wds.length := nle_lt c_7
        refine lv_aload_n hx hb dX6_find_10 rfl (lv_at hl 0 rfl) ?_
        refine gt hF hW (ms_r (List.mem_of_getElem? (i := 0) rfl)) (ci := 22) rfl in_X6 2 (by decide) q1070 rfl (v := .ref an) rfl dX6_find_11 ?_
        refine lv_iload_n hx hb dX6_find_14 rfl (lv_at hl 2 rfl) ?_
        refine al_l hF hW (ms_r (List.mem_of_getElem? (i := 1) rfl)) 3 rfl (j := k) (rfl) (by omega) (by decide) dX6_find_15 ?_
        refine lv_eqv (congrArg Value.long (show nf k = encL (wds.getD k []) from (hw k hkl).1)) ?_
        refine lv_lload_n hx hb dX6_find_16 rfl (lv_at hl 1 rfl) ?_
        refine W.lcmp hx hb dX6_find_17 ?_
        refine lv_if_eq (tgt := 27) hx hb dX6_find_18 (by decide) (fun c_18 => ?_) (fun c_18 => ?_)
        · have heq : wds.getD k [] = nm := (encL_inj (hw k hkl).2 hwf).mp ((lg_cmp_eq _ _).mp c_18)
          refine lv_iload_n hx hb dX6_find_27 rfl (lv_at hl 2 rfl) ?_
          refine lv_aload_n hx hb dX6_find_28 rfl (lv_at hl 0 rfl) ?_
          refine gt hF hW (ms_r (List.mem_of_getElem? (i := 0) rfl)) (ci := 22) rfl in_X6 0 (by decide) q1066 rfl (v := .int (nI wds.length)) rfl dX6_find_29 ?_
          refine lv_icmp_ge (tgt := 39) hx hb dX6_find_32 (by decide) (fun c_32 => absurd c_32 (nI_ge hkl (by omega))) (fun c_32 => ?_)
          refine lv_iload_n hx hb dX6_find_35 rfl (lv_at hl 2 rfl) ?_
          refine lv_goto (tgt := 40) hx hb dX6_find_36 (by decide) ?_
          exact re_i hF hRt hLk hQ (by omega) (by omega) dX6_find_40 () (Or.inl ⟨k, hkl, heq, rfl⟩) hW
        · have heq : ¬ wds.getD k [] = nm := fun z => c_18 ((lg_cmp_eq _ _).mpr ((encL_inj (hw k hkl).2 hwf).mpr z))
          refine lv_iinc (v := nI (k + 1)) (lv' := [(3, .int (nI (k + 1))), (0, .ref a), (1, .long (encL nm))]) hx hb dX6_find_21 hl (k := 2) rfl (nI_1 _) (by decide) rfl (fun ls hl => ?_)
          refine lv_goto (tgt := 2) hx hb dX6_find_24 (by decide) ?_
          exact ih (k + 1) H locs ls (by omega) (by omega) (fun j hj => if h : j = k then h ▸ heq else hg j (by omega)) hW (lv_sub hl [1, 2, 0] rfl)
  exact loop_2 _ 0 _ _ _ (Nat.lt_succ_self _) (Nat.zero_le _) (fun j hj => absurd hj (Nat.not_lt_zero j)) hW (lv_sub hl [1, 2, 0] rfl)

set_option maxRecDepth 100000 in
set_option maxHeartbeats 4000000 in
theorem mX4_starts (l : Launch) (G : pG) (ad : Nat → Nat) (x : XV) (T : va_W) (v : Nat → Int32) (lt0 : Int64) (n : Nat) (hn : n ≤ 300) : Met l yX4_starts (ws_ yX4_starts cX4_starts 2 none) ({ frames := 2, cells := 0, slots := 0, locals := 43 } : Room) (va_Pc [.ref (ad 0), .int (nI n)] (fun U => pW G (MWl G ad (mdx x v lt0) ++ T) U)) (va_Qv (fun (u : MS) => u.1 12 = nI n ∧ (tkK (x.2.1 13) n 0 ≠ 1 → u.1 13 = nI (tkE (x.2.1 13) n 0)) ∧ u.1 14 = nI (msort (tkK (x.2.1 13) n 0)) ∧ u.1 15 = nI (skA (x.2.1 13) n 0) ∧ u.1 16 = msign (tkK (x.2.1 13) n 0) ∧ (tkK (x.2.1 13) n 0 = 2 → u.2 = encL (tkW (x.2.1 13) n 0))) (fun (u : MS) t9 => pW G (MWl G ad (mdx (xi x 11 0) u.1 u.2) ++ T) t9) (pA G)) 0 0 (pA G) := by
  refine mw (by decide) (Nat.le_of_ble_eq_true rfl) ?_
  intro pp ee R s m below meth c ls Q hF hRt hLk hnm hR hQ hW hl
  have hx := hF.1
  have hb := hF.2.1
  have hts := hF.2.2.2.2
  have hR1 : R.frames = 2 := by rw [hR]
  have hR2 : R.cells = 0 := by rw [hR]
  have hR3 : R.slots = 0 := by rw [hR]
  have hR4 : R.locals = 43 := by rw [hR]
  have hl : lv_has ls 2 [(0, .ref (ad 0)), (1, .int (nI n))] := hl
  have hW : pM G (MWl G ad (mdx x v lt0) ++ T) s s.heap [] := hW
  refine lv_aload_n hx hb dX4_starts_0 rfl (lv_at hl 0 rfl) ?_
  refine lv_iload_n hx hb dX4_starts_1 rfl (lv_at hl 1 rfl) ?_
  refine pM0_size hF hW q1128 dX4_starts_2 (fun H locs hW => ?_)
  have hW : pM G (MWl G ad (xi (mdx x v lt0) 12 (nI n)) ++ T) s _ _ := hW
  refine lv_aload_n hx hb dX4_starts_5 rfl (lv_at hl 0 rfl) ?_
  refine lv_iconst (v := 0) hx hb dX4_starts_6 (by decide) ?_
  refine pM0_taped hF hW q1127 dX4_starts_7 (fun H locs hW => ?_)
  have hW : pM G (MWl G ad (xi (xi (mdx x v lt0) 11 0) 12 (nI n)) ++ T) s _ _ := hW
  refine lv_aload_n hx hb dX4_starts_10 rfl (lv_at hl 0 rfl) ?_
  refine lv_iconst (v := 0) hx hb dX4_starts_11 (by decide) ?_
  refine pM0_at hF hW q1129 dX4_starts_12 (fun H locs hW => ?_)
  have hW : pM G (MWl G ad (xi (xi (xi (mdx x v lt0) 11 0) 12 (nI n)) 13 0) ++ T) s _ _ := hW
  refine lv_aload_n hx hb dX4_starts_15 rfl (lv_at hl 0 rfl) ?_
  have hW : pM G (MWl G ad (mdx (xi x 11 0) (va_up (va_up v 12 (nI n)) 13 0) lt0) ++ T) s _ _ := hW
  refine cl_v (ru_V (As := []) (rest := []) hF (mX4_next l G ad (xi x 11 0) T (va_up (va_up v 12 (nI n)) 13 0) lt0 0 n hn rfl rfl (Nat.zero_le _)) (cwV 0 hts (lw_V q1267 q1269 qs32 q66 q1270) rfl rfl rfl (by decide +kernel) ⟨lb hR1 rfl, lb hR4 rfl⟩) hW (List.mem_of_getElem? (i := 0) rfl) (ci := 20) rfl rfl rfl hl.1 rfl (lv_room (Nat.le_of_ble_eq_true rfl)) dX4_starts_16 ⟨by omega, by omega⟩) hW (fun u_ H locs h_ hW => ?_)
  obtain ⟨v1, lt1⟩ := u_
  obtain ⟨t_12, t_13, t_14, t_15, t_16, t_w⟩ := h_
  have hW : pM G (MWl G ad (mdx (xi x 11 0) v1 lt1) ++ T) s _ _ := hW
  exact re_v hF hRt hLk hQ (by omega) (by omega) dX4_starts_19 (v1, lt1) (⟨t_12, t_13, t_14, t_15, t_16, t_w⟩) hW
