/-! texts of the hall -/
set_option maxRecDepth 100000 in
set_option maxHeartbeats 4000000 in
theorem mX10_init (l : Launch) (G : pG) (Z : va_W) (a : Nat) : Met l yX10_init (ws_ yX10_init cX10_init 1 none) ({ frames := 1, cells := 3, slots := 26, locals := 12 } : Room) (va_Pc [.ref a] (fun U => pW G (Z ++ ((a, .inr (4, [.null, .null, .null, .int 0, .int 0])) :: [])) U)) (va_Qv (fun (_ : Nat × Nat × Nat) => True) (fun (u : Nat × Nat × Nat) t9 => pW G (Z ++ ((a, .inr (4, [.ref u.1, .ref u.2.1, .ref u.2.2, .int 0, .int 0])) :: [(u.1, .inl (G.2.2.1 4, 8, .inr (.inr (.inr (.inr (fun _ => none)))))), (u.2.1, .inl (G.2.2.1 0, 8, .inl (fun _ => 0))), (u.2.2, .inl (G.2.2.1 10, 10, .inr (.inr (.inr (.inr (fun _ => none))))))])) t9) (pA G)) 3 26 (pA G) := by
  refine mw (by decide) (Nat.le_of_ble_eq_true rfl) ?_
  intro pp ee R s m below meth c ls Q hF hRt hLk hnm hR hQ hW hl
  have hx := hF.1
  have hb := hF.2.1
  have hts := hF.2.2.2.2
  have hR1 : R.frames = 1 := by rw [hR]
  have hR2 : R.cells = 3 := by rw [hR]
  have hR3 : R.slots = 26 := by rw [hR]
  have hR4 : R.locals = 12 := by rw [hR]
  have hl : lv_has ls 1 [(0, .ref a)] := hl
  have hW : pM G (Z ++ ((a, .inr (4, [.null, .null, .null, .int 0, .int 0])) :: [])) s s.heap [] := hW
  refine lv_aload_n hx hb dX10_init_0 rfl (lv_at hl 0 rfl) ?_
  refine W.objInit hx hb hF.2.2.2.1 (hts _ q540) (hts _ q97) (hts _ q98) rfl (by rw [hF.2.2.1]; exact hl.1) rfl dX10_init_1 (lb hR1 rfl) (lb hR4 rfl) ?_
  refine W.eq (g2 := F0 m 4 ls []) rfl ?_
  refine lv_aload_n hx hb dX10_init_4 rfl (lv_at hl 0 rfl) ?_
  refine lv_bipush (v := 8) hx hb dX10_init_5 (by decide) ?_
  refine nq (N' := 8) hF hW q541 (List.mem_of_getElem? (i := 0) rfl) 4 rfl (rfl) (by omega) (by omega) (by omega) dX10_init_7 (fun qa_1 H hW => ?_)
  have hW := hW.asc
  have hW : pM G (Z ++ ((a, .inr (4, [.null, .null, .null, .int 0, .int 0])) :: [(qa_1, .inl (G.2.2.1 4, 8, .inr (.inr (.inr (.inr (fun _ => none))))))])) s _ _ := hW
  refine pzF (Z) [] ([(qa_1, .inl (G.2.2.1 4, 8, .inr (.inr (.inr (.inr (fun _ => none))))))]) (Cn := RX10) (T := TX10) (N := 5) (ci := 4) hF hnm hW rfl in_X10 tyX10 tyX10_ok nmX10 0 (by decide) q544 rfl rfl rfl rfl rfl (by decide : 0 < 5) dX10_init_10 (fun H locs hW => ?_)
  have hW : pM G (Z ++ ((a, .inr (4, [.ref qa_1, .null, .null, .int 0, .int 0])) :: [(qa_1, .inl (G.2.2.1 4, 8, .inr (.inr (.inr (.inr (fun _ => none))))))])) s _ _ := hW
  refine lv_aload_n hx hb dX10_init_13 rfl (lv_at hl 0 rfl) ?_
  refine lv_bipush (v := 8) hx hb dX10_init_14 (by decide) ?_
  refine na (atype := .int) (N' := 8) (a0 := (8, .inl (fun _ => 0))) hF hW q244 rfl 0 rfl (fun _ => rfl) (rfl) (by omega) (by decide) (by omega) (by omega) dX10_init_16 (fun qa_2 H hW => ?_)
  have hW := hW.asc
  have hW : pM G (Z ++ ((a, .inr (4, [.ref qa_1, .null, .null, .int 0, .int 0])) :: [(qa_1, .inl (G.2.2.1 4, 8, .inr (.inr (.inr (.inr (fun _ => none)))))), (qa_2, .inl (G.2.2.1 0, 8, .inl (fun _ => 0)))])) s _ _ := hW
  refine pzF (Z) [] ([(qa_1, .inl (G.2.2.1 4, 8, .inr (.inr (.inr (.inr (fun _ => none)))))), (qa_2, .inl (G.2.2.1 0, 8, .inl (fun _ => 0)))]) (Cn := RX10) (T := TX10) (N := 5) (ci := 4) hF hnm hW rfl in_X10 tyX10 tyX10_ok nmX10 1 (by decide) q546 rfl rfl rfl rfl rfl (by decide : 1 < 5) dX10_init_18 (fun H locs hW => ?_)
  have hW : pM G (Z ++ ((a, .inr (4, [.ref qa_1, .ref qa_2, .null, .int 0, .int 0])) :: [(qa_1, .inl (G.2.2.1 4, 8, .inr (.inr (.inr (.inr (fun _ => none)))))), (qa_2, .inl (G.2.2.1 0, 8, .inl (fun _ => 0)))])) s _ _ := hW
  refine lv_aload_n hx hb dX10_init_21 rfl (lv_at hl 0 rfl) ?_
  refine lv_bipush (v := 10) hx hb dX10_init_22 (by decide) ?_
  refine nq (N' := 10) hF hW q542 (List.mem_of_getElem? (i := 6) rfl) 10 rfl (rfl) (by omega) (by omega) (by omega) dX10_init_24 (fun qa_3 H hW => ?_)
  have hW := hW.asc
  have hW : pM G (Z ++ ((a, .inr (4, [.ref qa_1, .ref qa_2, .null, .int 0, .int 0])) :: [(qa_1, .inl (G.2.2.1 4, 8, .inr (.inr (.inr (.inr (fun _ => none)))))), (qa_2, .inl (G.2.2.1 0, 8, .inl (fun _ => 0))), (qa_3, .inl (G.2.2.1 10, 10, .inr (.inr (.inr (.inr (fun _ => none))))))])) s _ _ := hW
  refine pzF (Z) [] ([(qa_1, .inl (G.2.2.1 4, 8, .inr (.inr (.inr (.inr (fun _ => none)))))), (qa_2, .inl (G.2.2.1 0, 8, .inl (fun _ => 0))), (qa_3, .inl (G.2.2.1 10, 10, .inr (.inr (.inr (.inr (fun _ => none))))))]) (Cn := RX10) (T := TX10) (N := 5) (ci := 4) hF hnm hW rfl in_X10 tyX10 tyX10_ok nmX10 2 (by decide) q549 rfl rfl rfl rfl rfl (by decide : 2 < 5) dX10_init_27 (fun H locs hW => ?_)
  have hW : pM G (Z ++ ((a, .inr (4, [.ref qa_1, .ref qa_2, .ref qa_3, .int 0, .int 0])) :: [(qa_1, .inl (G.2.2.1 4, 8, .inr (.inr (.inr (.inr (fun _ => none)))))), (qa_2, .inl (G.2.2.1 0, 8, .inl (fun _ => 0))), (qa_3, .inl (G.2.2.1 10, 10, .inr (.inr (.inr (.inr (fun _ => none))))))])) s _ _ := hW
  exact re_v hF hRt hLk hQ (by omega) (by omega) dX10_init_30 (qa_1, qa_2, qa_3) (trivial) hW

set_option maxRecDepth 100000 in
set_option maxHeartbeats 4000000 in
theorem mX10_partOf (l : Launch) (G : pG) (Z Y : va_W) (a an aw al np nl : Nat) (nf lf : Nat → Option Nat) (wf : Nat → Int32) (nms : Nat → List Nat) (nm : List Nat) (sa : Nat) (hp : ∀ k, k < np → ∃ sa, nf k = some sa ∧ HS G Y sa (nms k)) (hs : HS G Y sa nm) (hnp : np ≤ 8) : Met l yX10_partOf (ws_ yX10_partOf cX10_partOf 3 (some .int)) ({ frames := 2, cells := 0, slots := 0, locals := 44 } : Room) (va_Pc [.ref a, .ref sa] (fun U => pW G (Z ++ ((a, .inr (4, [.ref an, .ref aw, .ref al, .int (nI np), .int (nI nl)])) :: (an, .inl (G.2.2.1 4, 8, .inr (.inr (.inr (.inr nf))))) :: (aw, .inl (G.2.2.1 0, 8, .inl wf)) :: (al, .inl (G.2.2.1 10, 10, .inr (.inr (.inr (.inr lf))))) :: Y)) U)) (va_Qi (fun r (_ : Unit) => (∃ k, k < np ∧ nms k = nm ∧ r = nI k) ∨ ((∀ k, k < np → nms k ≠ nm) ∧ r = -1)) (fun (u : Unit) t9 => pW G (Z ++ ((a, .inr (4, [.ref an, .ref aw, .ref al, .int (nI np), .int (nI nl)])) :: (an, .inl (G.2.2.1 4, 8, .inr (.inr (.inr (.inr nf))))) :: (aw, .inl (G.2.2.1 0, 8, .inl wf)) :: (al, .inl (G.2.2.1 10, 10, .inr (.inr (.inr (.inr lf))))) :: Y)) t9) (pA G)) 0 0 (pA G) := by
  refine mw (by decide) (Nat.le_of_ble_eq_true rfl) ?_
  intro pp ee R s m below meth c ls Q hF hRt hLk hnm hR hQ hW hl
  have hx := hF.1
  have hb := hF.2.1
  have hts := hF.2.2.2.2
  have hR1 : R.frames = 2 := by rw [hR]
  have hR2 : R.cells = 0 := by rw [hR]
  have hR3 : R.slots = 0 := by rw [hR]
  have hR4 : R.locals = 44 := by rw [hR]
  have hl : lv_has ls 3 [(0, .ref a), (1, .ref sa)] := hl
  have hW : pM G (Z ++ ((a, .inr (4, [.ref an, .ref aw, .ref al, .int (nI np), .int (nI nl)])) :: (an, .inl (G.2.2.1 4, 8, .inr (.inr (.inr (.inr nf))))) :: (aw, .inl (G.2.2.1 0, 8, .inl wf)) :: (al, .inl (G.2.2.1 10, 10, .inr (.inr (.inr (.inr lf))))) :: Y)) s s.heap [] := hW
  refine lv_aload_n hx hb dX10_partOf_0 rfl (lv_at hl 0 rfl) ?_
  refine gt hF hW (ms_r (List.mem_of_getElem? (i := 0) rfl)) (ci := 4) rfl in_X10 3 (by decide) q552 rfl (v := .int (nI np)) rfl dX10_partOf_1 ?_
  refine lv_iconst (v := 1) hx hb dX10_partOf_4 (by decide) ?_
  refine lv_isub hx hb dX10_partOf_5 ?_
  refine lv_istore_n (lv' := [(2, .int ((nI np) - 1)), (0, .ref a), (1, .ref sa)]) hx hb dX10_partOf_6 rfl hl (by decide) rfl (fun ls hl => ?_)
  have loop_7 : ∀ (nn : Nat) (i : Nat) (H : Heap) (locs : List Loc) (ls : Array Slot), i < nn → (i ≤ np) → (∀ j, i ≤ j → j < np → nms j ≠ nm) → pM G (Z ++ ((a, .inr (4, [.ref an, .ref aw, .ref al, .int (nI np), .int (nI nl)])) :: (an, .inl (G.2.2.1 4, 8, .inr (.inr (.inr (.inr nf))))) :: (aw, .inl (G.2.2.1 0, 8, .inl wf)) :: (al, .inl (G.2.2.1 10, 10, .inr (.inr (.inr (.inr lf))))) :: Y)) s H locs → lv_has ls 3 [(0, .ref a), (1, .ref sa), (2, .int (nI i - 1))] → W pp l ee R s m ([.ref a, .ref sa] : List Value).toArray below meth c H locs 0 0 Q (F0 m 7 ls []) := by
    intro nn
    induction nn with
    | zero => intro i H locs ls hm; exact absurd hm (Nat.not_lt_zero _)
    | succ nn ih =>
      intro i H locs ls hm hi hg hW hl
      cases i with
      | zero =>
        rw [show nI 0 - 1 = (-1 : Int32) by decide] at hl
        refine lv_iload_n hx hb dX10_partOf_7 rfl (lv_at hl 2 rfl) ?_
        refine lv_if_lt (tgt := 30) hx hb dX10_partOf_8 (by decide) (fun c_8 => ?_) (fun c_8 => absurd c_8 (by decide))
        refine lv_iload_n hx hb dX10_partOf_30 rfl (lv_at hl 2 rfl) ?_
        exact re_i hF hRt hLk hQ (by omega) (by omega) dX10_partOf_31 () (Or.inr ⟨fun k hk => hg k (Nat.zero_le _) hk, rfl⟩) hW
      | succ i =>
        rw [nI_pred] at hl
        obtain ⟨sk, hk1, hk2⟩ := hp i (by omega)
        have hk3 := hk2
        obtain ⟨bk, fk, hk4, hk5, hk6, hk7⟩ := hk3
        refine lv_iload_n hx hb dX10_partOf_7 rfl (lv_at hl 2 rfl) ?_
        refine lv_if_lt (tgt := 30) hx hb dX10_partOf_8 (by decide) (fun c_8 => absurd c_8 (nI_pos (by omega))) (fun c_8 => ?_)
        refine lv_aload_n hx hb dX10_partOf_11 rfl (lv_at hl 0 rfl) ?_
        refine gt hF hW (ms_r (List.mem_of_getElem? (i := 0) rfl)) (ci := 4) rfl in_X10 0 (by decide) q544 rfl (v := .ref an) rfl dX10_partOf_12 ?_
        refine lv_iload_n hx hb dX10_partOf_15 rfl (lv_at hl 2 rfl) ?_
        refine al_r hF hW (ms_r (List.mem_of_getElem? (i := 1) rfl)) 4 rfl (j := i) (rfl) (by omega) (by decide) (r := sk) (hk1) dX10_partOf_16 ?_
        refine lv_aload_n hx hb dX10_partOf_17 rfl (lv_at hl 1 rfl) ?_
        refine cl_i (ru_V (As := [.ref sa]) (rest := []) hF (mJ3_equals l G (Z ++ ((a, .inr (4, [.ref an, .ref aw, .ref al, .int (nI np), .int (nI nl)])) :: (an, .inl (G.2.2.1 4, 8, .inr (.inr (.inr (.inr nf))))) :: (aw, .inl (G.2.2.1 0, 8, .inl wf)) :: (al, .inl (G.2.2.1 10, 10, .inr (.inr (.inr (.inr lf))))) :: Y)) sk sa (nms i) nm (hk2.mono (fun q h => (ms_r (List.mem_cons_of_mem _ (List.mem_cons_of_mem _ (List.mem_cons_of_mem _ (List.mem_cons_of_mem _ h))))))) (hs.mono (fun q h => (ms_r (List.mem_cons_of_mem _ (List.mem_cons_of_mem _ (List.mem_cons_of_mem _ (List.mem_cons_of_mem _ h)))))))) (cwV 1 hts (lw_V q596 q475 q476 q69 q477) rfl rfl rfl (by decide +kernel) ⟨lb hR1 rfl, lb hR4 rfl⟩) hW (ms_r (List.mem_cons_of_mem _ (List.mem_cons_of_mem _ (List.mem_cons_of_mem _ (List.mem_cons_of_mem _ hk4))))) (ci := 19) rfl rfl rfl hl.1 rfl (lv_room (Nat.le_of_ble_eq_true rfl)) dX10_partOf_18 ⟨by omega, by omega⟩) hW (fun r_1 u_2 H locs h_3 hW => ?_)
        have hW : pM G (Z ++ ((a, .inr (4, [.ref an, .ref aw, .ref al, .int (nI np), .int (nI nl)])) :: (an, .inl (G.2.2.1 4, 8, .inr (.inr (.inr (.inr nf))))) :: (aw, .inl (G.2.2.1 0, 8, .inl wf)) :: (al, .inl (G.2.2.1 10, 10, .inr (.inr (.inr (.inr lf))))) :: Y)) s _ _ := hW
        rcases h_3 with ⟨rfl, b_18⟩ | ⟨rfl, b_18⟩
        · refine lv_if_ne (tgt := 30) hx hb dX10_partOf_21 (by decide) (fun c_21 => ?_) (fun c_21 => absurd c_21 (by decide))
          refine lv_iload_n hx hb dX10_partOf_30 rfl (lv_at hl 2 rfl) ?_
          exact re_i hF hRt hLk hQ (by omega) (by omega) dX10_partOf_31 () (Or.inl ⟨i, by omega, b_18, rfl⟩) hW
        · refine lv_if_ne (tgt := 30) hx hb dX10_partOf_21 (by decide) (fun c_21 => absurd c_21 (by decide)) (fun c_21 => ?_)
          refine lv_iinc (v := nI i - 1) (lv' := [(2, .int (nI i - 1)), (0, .ref a), (1, .ref sa)]) hx hb dX10_partOf_24 hl (k := 2) rfl (by rw [Int32.sub_eq_add_neg]; rfl) (by decide) rfl (fun ls hl => ?_)
          refine lv_goto (tgt := 7) hx hb dX10_partOf_27 (by decide) ?_
          exact W.widen (by omega) (by omega) (ih i H locs ls (by omega) (by omega) (fun j h1 h2 => if h : j = i then h ▸ b_18 else hg j (by omega) h2) hW (lv_sub hl [1, 2, 0] rfl))
  exact loop_7 _ np _ _ _ (Nat.lt_succ_self _) (Nat.le_refl _) (fun j h1 h2 => absurd h1 (by omega)) hW (lv_sub hl [1, 2, 0] rfl)

def lk3 (q : Nat × Nat × Nat) : Int32 × Int32 × Int32 := (nI q.1, nI q.2.1, nI q.2.2)
set_option maxRecDepth 100000 in
set_option maxHeartbeats 4000000 in
theorem mX10_has (l : Launch) (G : pG) (Z Y : va_W) (a an aw al np nl : Nat) (nf lf : Nat → Option Nat) (wf : Nat → Int32) (lk : Nat → Nat × Nat × Nat) (b : Nat) (v0 v1 v2 : Int32) (hlk : ∀ k, k < nl → ∃ la, lf k = some la ∧ (la, .inr (5, [.int (nI (lk k).1), .int (nI (lk k).2.1), .int (nI (lk k).2.2)])) ∈ Y) (hb0 : (b, .inr (5, [.int v0, .int v1, .int v2])) ∈ Y) (hnl : nl ≤ 10) : Met l yX10_has (ws_ yX10_has cX10_has 4 (some .boolean)) ({ frames := 1, cells := 0, slots := 0, locals := 21 } : Room) (va_Pc [.ref a, .ref b] (fun U => pW G (Z ++ ((a, .inr (4, [.ref an, .ref aw, .ref al, .int (nI np), .int (nI nl)])) :: (an, .inl (G.2.2.1 4, 8, .inr (.inr (.inr (.inr nf))))) :: (aw, .inl (G.2.2.1 0, 8, .inl wf)) :: (al, .inl (G.2.2.1 10, 10, .inr (.inr (.inr (.inr lf))))) :: Y)) U)) (va_Qi (fun r (_ : Unit) => (r = 1 ∧ ∃ k, k < nl ∧ (nI (lk k).1 = v0 ∧ nI (lk k).2.1 = v1 ∧ nI (lk k).2.2 = v2)) ∨ (r = 0 ∧ ∀ k, k < nl → ¬ (nI (lk k).1 = v0 ∧ nI (lk k).2.1 = v1 ∧ nI (lk k).2.2 = v2))) (fun (u : Unit) t9 => pW G (Z ++ ((a, .inr (4, [.ref an, .ref aw, .ref al, .int (nI np), .int (nI nl)])) :: (an, .inl (G.2.2.1 4, 8, .inr (.inr (.inr (.inr nf))))) :: (aw, .inl (G.2.2.1 0, 8, .inl wf)) :: (al, .inl (G.2.2.1 10, 10, .inr (.inr (.inr (.inr lf))))) :: Y)) t9) (pA G)) 0 0 (pA G) := by
  refine mw (by decide) (Nat.le_of_ble_eq_true rfl) ?_
  intro pp ee R s m below meth c ls Q hF hRt hLk hnm hR hQ hW hl
  have hx := hF.1
  have hb := hF.2.1
  have hts := hF.2.2.2.2
  have hR1 : R.frames = 1 := by rw [hR]
  have hR2 : R.cells = 0 := by rw [hR]
  have hR3 : R.slots = 0 := by rw [hR]
  have hR4 : R.locals = 21 := by rw [hR]
  have hl : lv_has ls 4 [(0, .ref a), (1, .ref b)] := hl
  have hW : pM G (Z ++ ((a, .inr (4, [.ref an, .ref aw, .ref al, .int (nI np), .int (nI nl)])) :: (an, .inl (G.2.2.1 4, 8, .inr (.inr (.inr (.inr nf))))) :: (aw, .inl (G.2.2.1 0, 8, .inl wf)) :: (al, .inl (G.2.2.1 10, 10, .inr (.inr (.inr (.inr lf))))) :: Y)) s s.heap [] := hW
  refine lv_iconst (v := 0) hx hb dX10_has_0 (by decide) ?_
  refine lv_istore_n (lv' := [(2, .int 0), (0, .ref a), (1, .ref b)]) hx hb dX10_has_1 rfl hl (by decide) rfl (fun ls hl => ?_)
  refine lv_iconst (v := 0) hx hb dX10_has_2 (by decide) ?_
  refine lv_istore_n (lv' := [(3, .int 0), (2, .int 0), (0, .ref a), (1, .ref b)]) hx hb dX10_has_3 rfl hl (by decide) rfl (fun ls hl => ?_)
  have loop_4 : ∀ (nn : Nat) (k : Nat) (H : Heap) (locs : List Loc) (ls : Array Slot), nl - k < nn → (k ≤ nl) → (∀ k_, k_ < k → ¬ (nI (lk k_).1 = v0 ∧ nI (lk k_).2.1 = v1 ∧ nI (lk k_).2.2 = v2)) → pM G (Z ++ ((a, .inr (4, [.ref an, .ref aw, .ref al, .int (nI np), .int (nI nl)])) :: (an, .inl (G.2.2.1 4, 8, .inr (.inr (.inr (.inr nf))))) :: (aw, .inl (G.2.2.1 0, 8, .inl wf)) :: (al, .inl (G.2.2.1 10, 10, .inr (.inr (.inr (.inr lf))))) :: Y)) s H locs → lv_has ls 4 [(0, .ref a), (1, .ref b), (2, .int 0), (3, .int (nI k))] → W pp l ee R s m ([.ref a, .ref b] : List Value).toArray below meth c H locs 0 0 Q (F0 m 4 ls []) := by
    intro nn
    induction nn with
    | zero => intro k H locs ls hm; exact absurd hm (Nat.not_lt_zero _)
    | succ nn ih =>
      intro k H locs ls hm hk hg hW hl
      refine lv_iload_n hx hb dX10_has_4 rfl (lv_at hl 3 rfl) ?_
      refine lv_aload_n hx hb dX10_has_5 rfl (lv_at hl 0 rfl) ?_
      refine gt hF hW (ms_r (List.mem_of_getElem? (i := 0) rfl)) (ci := 4) rfl in_X10 4 (by decide) q556 rfl (v := .int (nI nl)) rfl dX10_has_6 ?_
      refine lv_icmp_ge (tgt := 33) hx hb dX10_has_9 (by decide) (fun c_9 => ?_) (fun c_9 => ?_)
      · refine lv_iload_n hx hb dX10_has_33 rfl (lv_at hl 2 rfl) ?_
        exact re_z hF hRt hLk hQ (by omega) (by omega) (by decide) dX10_has_34 () (Or.inr ⟨rfl, fun k_ hk_ => hg k_ (by have := le_le c_9; omega)⟩) hW
      · have hkl_ : k < nl := nle_lt c_9
        have hkl := hkl_
        obtain ⟨la, hl1, hl2⟩ := hlk k hkl
        refine lv_iload_n hx hb dX10_has_12 rfl (lv_at hl 2 rfl) ?_
        refine lv_if_ne (tgt := 33) hx hb dX10_has_13 (by decide) (fun c_13 => absurd c_13 (by decide)) (fun c_13 => ?_)
        refine lv_aload_n hx hb dX10_has_16 rfl (lv_at hl 0 rfl) ?_
        refine gt hF hW (ms_r (List.mem_of_getElem? (i := 0) rfl)) (ci := 4) rfl in_X10 2 (by decide) q549 rfl (v := .ref al) rfl dX10_has_17 ?_
        refine lv_iload_n hx hb dX10_has_20 rfl (lv_at hl 3 rfl) ?_
        refine al_r hF hW (ms_r (List.mem_of_getElem? (i := 3) rfl)) 10 rfl (j := k) (rfl) (by omega) (by decide) (r := la) (hl1) dX10_has_21 ?_
        refine lv_aload_n hx hb dX10_has_22 rfl (lv_at hl 1 rfl) ?_
        refine cl_i (ru_V (As := [.ref b]) (rest := []) hF (mX11_isSame l G (Z ++ ((a, .inr (4, [.ref an, .ref aw, .ref al, .int (nI np), .int (nI nl)])) :: (an, .inl (G.2.2.1 4, 8, .inr (.inr (.inr (.inr nf))))) :: (aw, .inl (G.2.2.1 0, 8, .inl wf)) :: (al, .inl (G.2.2.1 10, 10, .inr (.inr (.inr (.inr lf))))) :: Y)) la b (nI (lk k).1) (nI (lk k).2.1) (nI (lk k).2.2) v0 v1 v2 (ms_r (List.mem_cons_of_mem _ (List.mem_cons_of_mem _ (List.mem_cons_of_mem _ (List.mem_cons_of_mem _ hl2))))) (ms_r (List.mem_cons_of_mem _ (List.mem_cons_of_mem _ (List.mem_cons_of_mem _ (List.mem_cons_of_mem _ hb0)))))) (cwV 1 hts (lw_V q640 q641 q642 q78 q643) rfl rfl rfl (by decide +kernel) ⟨lb hR1 rfl, lb hR4 rfl⟩) hW (ms_r (List.mem_cons_of_mem _ (List.mem_cons_of_mem _ (List.mem_cons_of_mem _ (List.mem_cons_of_mem _ hl2))))) (ci := 5) rfl rfl rfl hl.1 rfl (lv_room (Nat.le_of_ble_eq_true rfl)) dX10_has_23 ⟨by omega, by omega⟩) hW (fun r_1 u_2 H locs h_3 hW => ?_)
        have hW : pM G (Z ++ ((a, .inr (4, [.ref an, .ref aw, .ref al, .int (nI np), .int (nI nl)])) :: (an, .inl (G.2.2.1 4, 8, .inr (.inr (.inr (.inr nf))))) :: (aw, .inl (G.2.2.1 0, 8, .inl wf)) :: (al, .inl (G.2.2.1 10, 10, .inr (.inr (.inr (.inr lf))))) :: Y)) s _ _ := hW
        rcases h_3 with ⟨rfl, b_23⟩ | ⟨rfl, b_23⟩
        · refine lv_istore_n (lv' := [(2, .int 1), (0, .ref a), (1, .ref b), (3, .int (nI k))]) hx hb dX10_has_26 rfl hl (by decide) rfl (fun ls hl => ?_)
          refine lv_iinc (v := nI (k + 1)) (lv' := [(3, .int (nI (k + 1))), (2, .int 1), (0, .ref a), (1, .ref b)]) hx hb dX10_has_27 hl (k := 3) rfl (nI_1 _) (by decide) rfl (fun ls hl => ?_)
          refine lv_goto (tgt := 4) hx hb dX10_has_30 (by decide) ?_
          refine lv_iload_n hx hb dX10_has_4 rfl (lv_at hl 0 rfl) ?_
          refine lv_aload_n hx hb dX10_has_5 rfl (lv_at hl 2 rfl) ?_
          refine gt hF hW (ms_r (List.mem_of_getElem? (i := 0) rfl)) (ci := 4) rfl in_X10 4 (by decide) q556 rfl (v := .int (nI nl)) rfl dX10_has_6 ?_
          refine lv_icmp_ge (tgt := 33) hx hb dX10_has_9 (by decide) (fun c_9 => ?_) (fun c_9 => ?_)
          · refine lv_iload_n hx hb dX10_has_33 rfl (lv_at hl 1 rfl) ?_
            exact re_z hF hRt hLk hQ (by omega) (by omega) (by decide) dX10_has_34 () (Or.inl ⟨rfl, k, hkl_, b_23⟩) hW
          · refine lv_iload_n hx hb dX10_has_12 rfl (lv_at hl 1 rfl) ?_
            refine lv_if_ne (tgt := 33) hx hb dX10_has_13 (by decide) (fun c_13 => ?_) (fun c_13 => absurd c_13 (by decide))
            refine lv_iload_n hx hb dX10_has_33 rfl (lv_at hl 1 rfl) ?_
            exact re_z hF hRt hLk hQ (by omega) (by omega) (by decide) dX10_has_34 () (Or.inl ⟨rfl, k, hkl_, b_23⟩) hW
        · refine lv_istore_n (lv' := [(2, .int 0), (0, .ref a), (1, .ref b), (3, .int (nI k))]) hx hb dX10_has_26 rfl hl (by decide) rfl (fun ls hl => ?_)
          refine lv_iinc (v := nI (k + 1)) (lv' := [(3, .int (nI (k + 1))), (2, .int 0), (0, .ref a), (1, .ref b)]) hx hb dX10_has_27 hl (k := 3) rfl (nI_1 _) (by decide) rfl (fun ls hl => ?_)
          refine lv_goto (tgt := 4) hx hb dX10_has_30 (by decide) ?_
          exact W.widen (by omega) (by omega) (ih (k + 1) H locs ls (by omega) (by omega) (fun j hj => if h : j = k then h ▸ b_23 else hg j (by omega)) hW (lv_sub hl [2, 3, 1, 0] rfl))
  exact loop_4 _ 0 _ _ _ (Nat.lt_succ_self _) (Nat.zero_le _) (fun j hj => absurd hj (Nat.not_lt_zero j)) hW (lv_sub hl [2, 3, 1, 0] rfl)

set_option maxRecDepth 100000 in
set_option maxHeartbeats 4000000 in
theorem mX10_puts (l : Launch) (G : pG) (Z Y : va_W) (a an aw al np nl : Nat) (nf lf : Nat → Option Nat) (wf : Nat → Int32) (sa : Nat) (nm : List Nat) (v0 : Int32) (hs : HS G Y sa nm) (hnp : np < 8) : Met l yX10_puts (ws_ yX10_puts cX10_puts 3 none) ({ frames := 0, cells := 0, slots := 0, locals := 0 } : Room) (va_Pc [.ref a, .ref sa, .int v0] (fun U => pW G (Z ++ ((a, .inr (4, [.ref an, .ref aw, .ref al, .int (nI np), .int (nI nl)])) :: (an, .inl (G.2.2.1 4, 8, .inr (.inr (.inr (.inr nf))))) :: (aw, .inl (G.2.2.1 0, 8, .inl wf)) :: (al, .inl (G.2.2.1 10, 10, .inr (.inr (.inr (.inr lf))))) :: Y)) U)) (va_Qv (fun (_ : Unit) => True) (fun (u : Unit) t9 => pW G (Z ++ ((a, .inr (4, [.ref an, .ref aw, .ref al, .int (nI (np + 1)), .int (nI nl)])) :: (an, .inl (G.2.2.1 4, 8, .inr (.inr (.inr (.inr (va_up nf np (some sa))))))) :: (aw, .inl (G.2.2.1 0, 8, .inl (va_up wf np v0))) :: (al, .inl (G.2.2.1 10, 10, .inr (.inr (.inr (.inr lf))))) :: Y)) t9) (pA G)) 0 0 (pA G) := by
  refine mw (by decide) (Nat.le_of_ble_eq_true rfl) ?_
  intro pp ee R s m below meth c ls Q hF hRt hLk hnm hR hQ hW hl
  have hx := hF.1
  have hb := hF.2.1
  have hts := hF.2.2.2.2
  have hR1 : R.frames = 0 := by rw [hR]
  have hR2 : R.cells = 0 := by rw [hR]
  have hR3 : R.slots = 0 := by rw [hR]
  have hR4 : R.locals = 0 := by rw [hR]
  have hl : lv_has ls 3 [(0, .ref a), (1, .ref sa), (2, .int v0)] := hl
  have hW : pM G (Z ++ ((a, .inr (4, [.ref an, .ref aw, .ref al, .int (nI np), .int (nI nl)])) :: (an, .inl (G.2.2.1 4, 8, .inr (.inr (.inr (.inr nf))))) :: (aw, .inl (G.2.2.1 0, 8, .inl wf)) :: (al, .inl (G.2.2.1 10, 10, .inr (.inr (.inr (.inr lf))))) :: Y)) s s.heap [] := hW
  obtain ⟨bs, fs0, hs1, hs2, hs3, hs4⟩ := hs
  refine lv_aload_n hx hb dX10_puts_0 rfl (lv_at hl 0 rfl) ?_
  refine gt hF hW (ms_r (List.mem_of_getElem? (i := 0) rfl)) (ci := 4) rfl in_X10 0 (by decide) q544 rfl (v := .ref an) rfl dX10_puts_1 ?_
  refine lv_aload_n hx hb dX10_puts_4 rfl (lv_at hl 0 rfl) ?_
  refine gt hF hW (ms_r (List.mem_of_getElem? (i := 0) rfl)) (ci := 4) rfl in_X10 3 (by decide) q552 rfl (v := .int (nI np)) rfl dX10_puts_5 ?_
  refine lv_aload_n hx hb dX10_puts_8 rfl (lv_at hl 1 rfl) ?_
  refine az_r (Z) [(a, .inr (4, [.ref an, .ref aw, .ref al, .int (nI np), .int (nI nl)]))] ((aw, .inl (G.2.2.1 0, 8, .inl wf)) :: (al, .inl (G.2.2.1 10, 10, .inr (.inr (.inr (.inr lf))))) :: Y) (ci := 19) (r := (RJ3, TJ3, 4)) hF hW 4 rfl (ms_r (List.mem_cons_of_mem _ (List.mem_cons_of_mem _ (List.mem_cons_of_mem _ (List.mem_cons_of_mem _ hs1))))) rfl (j := np) (rfl) (by omega) (by decide) dX10_puts_9 (fun H locs hW => ?_)
  have hW : pM G (Z ++ ((a, .inr (4, [.ref an, .ref aw, .ref al, .int (nI np), .int (nI nl)])) :: (an, .inl (G.2.2.1 4, 8, .inr (.inr (.inr (.inr (va_up nf np (some sa))))))) :: (aw, .inl (G.2.2.1 0, 8, .inl wf)) :: (al, .inl (G.2.2.1 10, 10, .inr (.inr (.inr (.inr lf))))) :: Y)) s _ _ := hW
  refine lv_aload_n hx hb dX10_puts_10 rfl (lv_at hl 0 rfl) ?_
  refine gt hF hW (ms_r (List.mem_of_getElem? (i := 0) rfl)) (ci := 4) rfl in_X10 1 (by decide) q546 rfl (v := .ref aw) rfl dX10_puts_11 ?_
  refine lv_aload_n hx hb dX10_puts_14 rfl (lv_at hl 0 rfl) ?_
  refine gt hF hW (ms_r (List.mem_of_getElem? (i := 0) rfl)) (ci := 4) rfl in_X10 3 (by decide) q552 rfl (v := .int (nI np)) rfl dX10_puts_15 ?_
  refine lv_iload_n hx hb dX10_puts_18 rfl (lv_at hl 2 rfl) ?_
  refine az_i (Z) [(a, .inr (4, [.ref an, .ref aw, .ref al, .int (nI np), .int (nI nl)])), (an, .inl (G.2.2.1 4, 8, .inr (.inr (.inr (.inr (va_up nf np (some sa)))))))] ((al, .inl (G.2.2.1 10, 10, .inr (.inr (.inr (.inr lf))))) :: Y) hF hW 0 rfl (j := np) (rfl) (by omega) (by decide) dX10_puts_19 (fun H locs hW => ?_)
  have hW : pM G (Z ++ ((a, .inr (4, [.ref an, .ref aw, .ref al, .int (nI np), .int (nI nl)])) :: (an, .inl (G.2.2.1 4, 8, .inr (.inr (.inr (.inr (va_up nf np (some sa))))))) :: (aw, .inl (G.2.2.1 0, 8, .inl (va_up wf np v0))) :: (al, .inl (G.2.2.1 10, 10, .inr (.inr (.inr (.inr lf))))) :: Y)) s _ _ := hW
  refine lv_aload_n hx hb dX10_puts_20 rfl (lv_at hl 0 rfl) ?_
  refine lv_dup hx hb dX10_puts_21 rfl ?_
  refine gt hF hW (ms_r (List.mem_of_getElem? (i := 0) rfl)) (ci := 4) rfl in_X10 3 (by decide) q552 rfl (v := .int (nI np)) rfl dX10_puts_22 ?_
  refine lv_iconst (v := 1) hx hb dX10_puts_25 (by decide) ?_
  refine lv_iadd hx hb dX10_puts_26 ?_
  refine lv_eqi (show (nI np) + 1 = nI (np + 1) from nI_add np 1) ?_
  refine pz (Z) [] ((an, .inl (G.2.2.1 4, 8, .inr (.inr (.inr (.inr (va_up nf np (some sa))))))) :: (aw, .inl (G.2.2.1 0, 8, .inl (va_up wf np v0))) :: (al, .inl (G.2.2.1 10, 10, .inr (.inr (.inr (.inr lf))))) :: Y) (Cn := RX10) (T := TX10) (N := 5) (ci := 4) hF hW rfl in_X10 tyX10 tyX10_ok nmX10 3 (by decide) q552 rfl rfl rfl rfl (by decide : 3 < 5) dX10_puts_27 (fun H locs hW => ?_)
  have hW : pM G (Z ++ ((a, .inr (4, [.ref an, .ref aw, .ref al, .int (nI (np + 1)), .int (nI nl)])) :: (an, .inl (G.2.2.1 4, 8, .inr (.inr (.inr (.inr (va_up nf np (some sa))))))) :: (aw, .inl (G.2.2.1 0, 8, .inl (va_up wf np v0))) :: (al, .inl (G.2.2.1 10, 10, .inr (.inr (.inr (.inr lf))))) :: Y)) s _ _ := hW
  exact re_v hF hRt hLk hQ (by omega) (by omega) dX10_puts_30 () (trivial) hW

set_option maxRecDepth 100000 in
set_option maxHeartbeats 4000000 in
theorem mX10_puts_2 (l : Launch) (G : pG) (Z Y : va_W) (a an aw al np nl : Nat) (nf lf : Nat → Option Nat) (wf : Nat → Int32) (b : Nat) (v0 v1 v2 : Int32) (hb0 : (b, .inr (5, [.int v0, .int v1, .int v2])) ∈ Y) (hnl : nl < 10) : Met l yX10_puts_2 (ws_ yX10_puts_2 cX10_puts_2 2 none) ({ frames := 0, cells := 0, slots := 0, locals := 0 } : Room) (va_Pc [.ref a, .ref b] (fun U => pW G (Z ++ ((a, .inr (4, [.ref an, .ref aw, .ref al, .int (nI np), .int (nI nl)])) :: (an, .inl (G.2.2.1 4, 8, .inr (.inr (.inr (.inr nf))))) :: (aw, .inl (G.2.2.1 0, 8, .inl wf)) :: (al, .inl (G.2.2.1 10, 10, .inr (.inr (.inr (.inr lf))))) :: Y)) U)) (va_Qv (fun (_ : Unit) => True) (fun (u : Unit) t9 => pW G (Z ++ ((a, .inr (4, [.ref an, .ref aw, .ref al, .int (nI np), .int (nI (nl + 1))])) :: (an, .inl (G.2.2.1 4, 8, .inr (.inr (.inr (.inr nf))))) :: (aw, .inl (G.2.2.1 0, 8, .inl wf)) :: (al, .inl (G.2.2.1 10, 10, .inr (.inr (.inr (.inr (va_up lf nl (some b))))))) :: Y)) t9) (pA G)) 0 0 (pA G) := by
  refine mw (by decide) (Nat.le_of_ble_eq_true rfl) ?_
  intro pp ee R s m below meth c ls Q hF hRt hLk hnm hR hQ hW hl
  have hx := hF.1
  have hb := hF.2.1
  have hts := hF.2.2.2.2
  have hR1 : R.frames = 0 := by rw [hR]
  have hR2 : R.cells = 0 := by rw [hR]
  have hR3 : R.slots = 0 := by rw [hR]
  have hR4 : R.locals = 0 := by rw [hR]
  have hl : lv_has ls 2 [(0, .ref a), (1, .ref b)] := hl
  have hW : pM G (Z ++ ((a, .inr (4, [.ref an, .ref aw, .ref al, .int (nI np), .int (nI nl)])) :: (an, .inl (G.2.2.1 4, 8, .inr (.inr (.inr (.inr nf))))) :: (aw, .inl (G.2.2.1 0, 8, .inl wf)) :: (al, .inl (G.2.2.1 10, 10, .inr (.inr (.inr (.inr lf))))) :: Y)) s s.heap [] := hW
  refine lv_aload_n hx hb dX10_puts_2_0 rfl (lv_at hl 0 rfl) ?_
  refine gt hF hW (ms_r (List.mem_of_getElem? (i := 0) rfl)) (ci := 4) rfl in_X10 2 (by decide) q549 rfl (v := .ref al) rfl dX10_puts_2_1 ?_
  refine lv_aload_n hx hb dX10_puts_2_4 rfl (lv_at hl 0 rfl) ?_
  refine gt hF hW (ms_r (List.mem_of_getElem? (i := 0) rfl)) (ci := 4) rfl in_X10 4 (by decide) q556 rfl (v := .int (nI nl)) rfl dX10_puts_2_5 ?_
  refine lv_aload_n hx hb dX10_puts_2_8 rfl (lv_at hl 1 rfl) ?_
  refine az_r (Z) [(a, .inr (4, [.ref an, .ref aw, .ref al, .int (nI np), .int (nI nl)])), (an, .inl (G.2.2.1 4, 8, .inr (.inr (.inr (.inr nf))))), (aw, .inl (G.2.2.1 0, 8, .inl wf))] (Y) (ci := 5) (r := (RX11, TX11, 3)) hF hW 10 rfl (ms_r (List.mem_cons_of_mem _ (List.mem_cons_of_mem _ (List.mem_cons_of_mem _ (List.mem_cons_of_mem _ hb0))))) rfl (j := nl) (rfl) (by omega) (by decide) dX10_puts_2_9 (fun H locs hW => ?_)
  have hW : pM G (Z ++ ((a, .inr (4, [.ref an, .ref aw, .ref al, .int (nI np), .int (nI nl)])) :: (an, .inl (G.2.2.1 4, 8, .inr (.inr (.inr (.inr nf))))) :: (aw, .inl (G.2.2.1 0, 8, .inl wf)) :: (al, .inl (G.2.2.1 10, 10, .inr (.inr (.inr (.inr (va_up lf nl (some b))))))) :: Y)) s _ _ := hW
  refine lv_aload_n hx hb dX10_puts_2_10 rfl (lv_at hl 0 rfl) ?_
  refine lv_dup hx hb dX10_puts_2_11 rfl ?_
  refine gt hF hW (ms_r (List.mem_of_getElem? (i := 0) rfl)) (ci := 4) rfl in_X10 4 (by decide) q556 rfl (v := .int (nI nl)) rfl dX10_puts_2_12 ?_
  refine lv_iconst (v := 1) hx hb dX10_puts_2_15 (by decide) ?_
  refine lv_iadd hx hb dX10_puts_2_16 ?_
  refine lv_eqi (show (nI nl) + 1 = nI (nl + 1) from nI_add nl 1) ?_
  refine pz (Z) [] ((an, .inl (G.2.2.1 4, 8, .inr (.inr (.inr (.inr nf))))) :: (aw, .inl (G.2.2.1 0, 8, .inl wf)) :: (al, .inl (G.2.2.1 10, 10, .inr (.inr (.inr (.inr (va_up lf nl (some b))))))) :: Y) (Cn := RX10) (T := TX10) (N := 5) (ci := 4) hF hW rfl in_X10 tyX10 tyX10_ok nmX10 4 (by decide) q556 rfl rfl rfl rfl (by decide : 4 < 5) dX10_puts_2_17 (fun H locs hW => ?_)
  have hW : pM G (Z ++ ((a, .inr (4, [.ref an, .ref aw, .ref al, .int (nI np), .int (nI (nl + 1))])) :: (an, .inl (G.2.2.1 4, 8, .inr (.inr (.inr (.inr nf))))) :: (aw, .inl (G.2.2.1 0, 8, .inl wf)) :: (al, .inl (G.2.2.1 10, 10, .inr (.inr (.inr (.inr (va_up lf nl (some b))))))) :: Y)) s _ _ := hW
  exact re_v hF hRt hLk hQ (by omega) (by omega) dX10_puts_2_20 () (trivial) hW
