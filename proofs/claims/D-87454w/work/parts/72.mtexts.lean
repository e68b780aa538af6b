/-! the model's papers, things, files, claims -/
theorem MHc_n {nf : Nat → Int64} {wf ff vf tf : Nat → Int32} : MHc nT nf wf ff vf tf := ⟨fun k hk => absurd hk (Nat.not_lt_zero _), fun k hk => absurd hk (Nat.not_lt_zero _), fun k hk => absurd hk (Nat.not_lt_zero _)⟩
theorem pM.rot {G : pG} {A B C0 : va_W} {s : State} {H : Heap} {locs : List Loc} (h : pM G (A ++ B ++ C0) s H locs) : pM G (A ++ (C0 ++ B)) s H locs := h.perm (by rw [List.append_assoc]; exact List.Perm.append_left _ List.perm_append_comm)
theorem pM.swp {G : pG} {A B : va_W} (C0 : va_W) {s : State} {H : Heap} {locs : List Loc} (h : pM G (A ++ (C0 ++ B)) s H locs) : pM G (A ++ (B ++ C0)) s H locs := h.perm (List.Perm.append_left _ List.perm_append_comm)
theorem pM.nil {G : pG} {A B : va_W} {s : State} {H : Heap} {locs : List Loc} (h : pM G (A ++ B) s H locs) : pM G (A ++ (B ++ [])) s H locs := by rw [List.append_nil]; exact h
theorem MR.nil {G : pG} {T : va_W} {y : XV} {S : AS} (h : MR G T y S) : MR G (T ++ []) y S := by rw [List.append_nil]; exact h

set_option maxRecDepth 100000 in
set_option maxHeartbeats 8000000 in
theorem mX6_become (l : Launch) (G : pG) (Z Y : va_W) (a an aw af av at_ np nl : Nat) (nf : Nat → Int64) (wf ff vf tf : Nat → Int32) (pb : Nat) (b : Tx) (hb9 : MT G Y pb b) (hb8 : b.1.length ≤ 8) (hb10 : b.2.2.length ≤ 10) : Met l yX6_become (ws_ yX6_become cX6_become 3 none) ({ frames := 0, cells := 0, slots := 0, locals := 0 } : Room) (va_Pc [.ref a, .ref pb] (fun U => pW G (Z ++ ((a, .inr (22, [.int (nI np), .int (nI nl), .ref an, .ref aw, .ref af, .ref av, .ref at_])) :: (an, .inl (G.2.2.1 3, 8, .inr (.inl nf))) :: (aw, .inl (G.2.2.1 0, 8, .inl wf)) :: (af, .inl (G.2.2.1 0, 10, .inl ff)) :: (av, .inl (G.2.2.1 0, 10, .inl vf)) :: (at_, .inl (G.2.2.1 0, 10, .inl tf)) :: Y)) U)) (va_Qv (fun (u : (Nat → Int64) × (Nat → Int32) × (Nat → Int32) × (Nat → Int32) × (Nat → Int32)) => MHc b u.1 u.2.1 u.2.2.1 u.2.2.2.1 u.2.2.2.2) (fun (u : (Nat → Int64) × (Nat → Int32) × (Nat → Int32) × (Nat → Int32) × (Nat → Int32)) t9 => pW G (Z ++ ((a, .inr (22, [.int (nI b.1.length), .int (nI b.2.2.length), .ref an, .ref aw, .ref af, .ref av, .ref at_])) :: (an, .inl (G.2.2.1 3, 8, .inr (.inl u.1))) :: (aw, .inl (G.2.2.1 0, 8, .inl u.2.1)) :: (af, .inl (G.2.2.1 0, 10, .inl u.2.2.1)) :: (av, .inl (G.2.2.1 0, 10, .inl u.2.2.2.1)) :: (at_, .inl (G.2.2.1 0, 10, .inl u.2.2.2.2)) :: Y)) t9) (pA G)) 0 0 (pA G) := by
  refine mw (by decide) (Nat.le_of_ble_eq_true rfl) ?_
  intro pp ee R s m below meth c ls Q hF hRt hLk hnm hR hQ hW hl
  have hx := hF.1
  have hb := hF.2.1
  have hts := hF.2.2.2.2
  have hR1 : R.frames = 0 := by rw [hR]
  have hR2 : R.cells = 0 := by rw [hR]
  have hR3 : R.slots = 0 := by rw [hR]
  have hR4 : R.locals = 0 := by rw [hR]
  have hl : lv_has ls 3 [(0, .ref a), (1, .ref pb)] := hl
  have hW : pM G (Z ++ ((a, .inr (22, [.int (nI np), .int (nI nl), .ref an, .ref aw, .ref af, .ref av, .ref at_])) :: (an, .inl (G.2.2.1 3, 8, .inr (.inl nf))) :: (aw, .inl (G.2.2.1 0, 8, .inl wf)) :: (af, .inl (G.2.2.1 0, 10, .inl ff)) :: (av, .inl (G.2.2.1 0, 10, .inl vf)) :: (at_, .inl (G.2.2.1 0, 10, .inl tf)) :: Y)) s s.heap [] := hW
  obtain ⟨anb, awb, afb, avb, atb, nfb, wfb, ffb, vfb, tfb, hb1, hb2, hb3, hb4, hb5, hb6, hb7⟩ := hb9
  refine lv_aload_n hx hb dX6_become_0 rfl (lv_at hl 0 rfl) ?_
  refine lv_aload_n hx hb dX6_become_1 rfl (lv_at hl 1 rfl) ?_
  refine gt hF hW (ms_r (List.mem_cons_of_mem _ (List.mem_cons_of_mem _ (List.mem_cons_of_mem _ (List.mem_cons_of_mem _ (List.mem_cons_of_mem _ (List.mem_cons_of_mem _ hb1))))))) (ci := 22) rfl in_X6 0 (by decide) q1066 rfl (v := .int (nI b.1.length)) rfl dX6_become_2 ?_
  refine pz (Z) [] ((an, .inl (G.2.2.1 3, 8, .inr (.inl nf))) :: (aw, .inl (G.2.2.1 0, 8, .inl wf)) :: (af, .inl (G.2.2.1 0, 10, .inl ff)) :: (av, .inl (G.2.2.1 0, 10, .inl vf)) :: (at_, .inl (G.2.2.1 0, 10, .inl tf)) :: Y) (Cn := RX6) (T := TX6) (N := 7) (ci := 22) hF hW rfl in_X6 tyX6 tyX6_ok nmX6 0 (by decide) q1066 rfl rfl rfl rfl (by decide : 0 < 7) dX6_become_5 (fun H locs hW => ?_)
  have hW : pM G (Z ++ ((a, .inr (22, [.int (nI b.1.length), .int (nI nl), .ref an, .ref aw, .ref af, .ref av, .ref at_])) :: (an, .inl (G.2.2.1 3, 8, .inr (.inl nf))) :: (aw, .inl (G.2.2.1 0, 8, .inl wf)) :: (af, .inl (G.2.2.1 0, 10, .inl ff)) :: (av, .inl (G.2.2.1 0, 10, .inl vf)) :: (at_, .inl (G.2.2.1 0, 10, .inl tf)) :: Y)) s _ _ := hW
  refine lv_aload_n hx hb dX6_become_8 rfl (lv_at hl 0 rfl) ?_
  refine lv_aload_n hx hb dX6_become_9 rfl (lv_at hl 1 rfl) ?_
  refine gt hF hW (ms_r (List.mem_cons_of_mem _ (List.mem_cons_of_mem _ (List.mem_cons_of_mem _ (List.mem_cons_of_mem _ (List.mem_cons_of_mem _ (List.mem_cons_of_mem _ hb1))))))) (ci := 22) rfl in_X6 1 (by decide) q1068 rfl (v := .int (nI b.2.2.length)) rfl dX6_become_10 ?_
  refine pz (Z) [] ((an, .inl (G.2.2.1 3, 8, .inr (.inl nf))) :: (aw, .inl (G.2.2.1 0, 8, .inl wf)) :: (af, .inl (G.2.2.1 0, 10, .inl ff)) :: (av, .inl (G.2.2.1 0, 10, .inl vf)) :: (at_, .inl (G.2.2.1 0, 10, .inl tf)) :: Y) (Cn := RX6) (T := TX6) (N := 7) (ci := 22) hF hW rfl in_X6 tyX6 tyX6_ok nmX6 1 (by decide) q1068 rfl rfl rfl rfl (by decide : 1 < 7) dX6_become_13 (fun H locs hW => ?_)
  have hW : pM G (Z ++ ((a, .inr (22, [.int (nI b.1.length), .int (nI b.2.2.length), .ref an, .ref aw, .ref af, .ref av, .ref at_])) :: (an, .inl (G.2.2.1 3, 8, .inr (.inl nf))) :: (aw, .inl (G.2.2.1 0, 8, .inl wf)) :: (af, .inl (G.2.2.1 0, 10, .inl ff)) :: (av, .inl (G.2.2.1 0, 10, .inl vf)) :: (at_, .inl (G.2.2.1 0, 10, .inl tf)) :: Y)) s _ _ := hW
  refine lv_iconst (v := 0) hx hb dX6_become_16 (by decide) ?_
  refine lv_istore_n (lv' := [(2, .int 0), (0, .ref a), (1, .ref pb)]) hx hb dX6_become_17 rfl hl (by decide) rfl (fun ls hl => ?_)
  have loop_18 : ∀ (nn : Nat) (k : Nat) (nf1 : Nat → Int64) (wf1 : Nat → Int32) (H : Heap) (locs : List Loc) (ls : Array Slot), 8 - k < nn → (k ≤ 8) → (∀ j, j < k → nf1 j = nfb j ∧ wf1 j = wfb j) → pM G (Z ++ ((a, .inr (22, [.int (nI b.1.length), .int (nI b.2.2.length), .ref an, .ref aw, .ref af, .ref av, .ref at_])) :: (an, .inl (G.2.2.1 3, 8, .inr (.inl nf1))) :: (aw, .inl (G.2.2.1 0, 8, .inl wf1)) :: (af, .inl (G.2.2.1 0, 10, .inl ff)) :: (av, .inl (G.2.2.1 0, 10, .inl vf)) :: (at_, .inl (G.2.2.1 0, 10, .inl tf)) :: Y)) s H locs → lv_has ls 3 [(0, .ref a), (1, .ref pb), (2, .int (nI k))] → W pp l ee R s m ([.ref a, .ref pb] : List Value).toArray below meth c H locs 0 0 Q (F0 m 18 ls []) := by
    intro nn
    induction nn with
    | zero => intro k nf1 wf1 H locs ls hm; exact absurd hm (Nat.not_lt_zero _)
    | succ nn ih =>
      intro k nf1 wf1 H locs ls hm hk h1 hW hl
      refine lv_iload_n hx hb dX6_become_18 rfl (lv_at hl 2 rfl) ?_
      refine lv_bipush (v := 8) hx hb dX6_become_19 (by decide) ?_
      refine lv_icmp_ge (tgt := 54) hx hb dX6_become_21 (by decide) (fun c_21 => ?_) (fun c_21 => ?_)
      · have hk8 : 8 ≤ k := le_le (a := 8) c_21
        refine lv_iconst (v := 0) hx hb dX6_become_54 (by decide) ?_
        refine lv_istore_n (lv' := [(2, .int 0), (0, .ref a), (1, .ref pb)]) hx hb dX6_become_55 rfl hl (by decide) rfl (fun ls hl => ?_)
        have loop_56 : ∀ (nn2 : Nat) (k2 : Nat) (ff1 : Nat → Int32) (vf1 : Nat → Int32) (tf1 : Nat → Int32) (H : Heap) (locs : List Loc) (ls : Array Slot), 10 - k2 < nn2 → (k2 ≤ 10) → (∀ j, j < k2 → ff1 j = ffb j ∧ vf1 j = vfb j ∧ tf1 j = tfb j) → pM G (Z ++ ((a, .inr (22, [.int (nI b.1.length), .int (nI b.2.2.length), .ref an, .ref aw, .ref af, .ref av, .ref at_])) :: (an, .inl (G.2.2.1 3, 8, .inr (.inl nf1))) :: (aw, .inl (G.2.2.1 0, 8, .inl wf1)) :: (af, .inl (G.2.2.1 0, 10, .inl ff1)) :: (av, .inl (G.2.2.1 0, 10, .inl vf1)) :: (at_, .inl (G.2.2.1 0, 10, .inl tf1)) :: Y)) s H locs → lv_has ls 3 [(0, .ref a), (1, .ref pb), (2, .int (nI k2))] → W pp l ee R s m ([.ref a, .ref pb] : List Value).toArray below meth c H locs 0 0 Q (F0 m 56 ls []) := by
          intro nn2
          induction nn2 with
          | zero => intro k2 ff1 vf1 tf1 H locs ls hm; exact absurd hm (Nat.not_lt_zero _)
          | succ nn2 ih2 =>
            intro k2 ff1 vf1 tf1 H locs ls hm hk2 h2 hW hl
            refine lv_iload_n hx hb dX6_become_56 rfl (lv_at hl 2 rfl) ?_
            refine lv_bipush (v := 10) hx hb dX6_become_57 (by decide) ?_
            refine lv_icmp_ge (tgt := 104) hx hb dX6_become_59 (by decide) (fun c_59 => ?_) (fun c_59 => ?_)
            · exact re_v hF hRt hLk hQ (by omega) (by omega) dX6_become_104 (nf1, wf1, ff1, vf1, tf1) (⟨fun j hj => by show nf1 j = _ ∧ _; have hj : j < b.1.length := hj; rw [(h1 j (by omega)).1]; exact hb7.1 j hj, fun j hj => by show wf1 j = _; rw [(h1 j (by omega)).2]; exact hb7.2.1 j hj, fun j hj => by show ff1 j = _ ∧ vf1 j = _ ∧ tf1 j = _; have := le_le (a := 10) c_59; rw [(h2 j (by omega)).1, (h2 j (by omega)).2.1, (h2 j (by omega)).2.2]; exact hb7.2.2 j hj⟩) hW
            · have hk9 := nle_lt (a := 10) c_59
              refine lv_aload_n hx hb dX6_become_62 rfl (lv_at hl 0 rfl) ?_
              refine gt hF hW (ms_r (List.mem_of_getElem? (i := 0) rfl)) (ci := 22) rfl in_X6 4 (by decide) q1074 rfl (v := .ref af) rfl dX6_become_63 ?_
              refine lv_iload_n hx hb dX6_become_66 rfl (lv_at hl 2 rfl) ?_
              refine lv_aload_n hx hb dX6_become_67 rfl (lv_at hl 1 rfl) ?_
              refine gt hF hW (ms_r (List.mem_cons_of_mem _ (List.mem_cons_of_mem _ (List.mem_cons_of_mem _ (List.mem_cons_of_mem _ (List.mem_cons_of_mem _ (List.mem_cons_of_mem _ hb1))))))) (ci := 22) rfl in_X6 4 (by decide) q1074 rfl (v := .ref afb) rfl dX6_become_68 ?_
              refine lv_iload_n hx hb dX6_become_71 rfl (lv_at hl 2 rfl) ?_
              refine al_i hF hW (ms_r (List.mem_cons_of_mem _ (List.mem_cons_of_mem _ (List.mem_cons_of_mem _ (List.mem_cons_of_mem _ (List.mem_cons_of_mem _ (List.mem_cons_of_mem _ hb4))))))) 0 rfl (j := k2) (rfl) (by omega) (by decide) dX6_become_72 ?_
              refine az_i (Z) [(a, .inr (22, [.int (nI b.1.length), .int (nI b.2.2.length), .ref an, .ref aw, .ref af, .ref av, .ref at_])), (an, .inl (G.2.2.1 3, 8, .inr (.inl nf1))), (aw, .inl (G.2.2.1 0, 8, .inl wf1))] ((av, .inl (G.2.2.1 0, 10, .inl vf1)) :: (at_, .inl (G.2.2.1 0, 10, .inl tf1)) :: Y) hF hW 0 rfl (j := k2) (rfl) (by omega) (by decide) dX6_become_73 (fun H locs hW => ?_)
              have hW : pM G (Z ++ ((a, .inr (22, [.int (nI b.1.length), .int (nI b.2.2.length), .ref an, .ref aw, .ref af, .ref av, .ref at_])) :: (an, .inl (G.2.2.1 3, 8, .inr (.inl nf1))) :: (aw, .inl (G.2.2.1 0, 8, .inl wf1)) :: (af, .inl (G.2.2.1 0, 10, .inl (va_up ff1 k2 (ffb k2)))) :: (av, .inl (G.2.2.1 0, 10, .inl vf1)) :: (at_, .inl (G.2.2.1 0, 10, .inl tf1)) :: Y)) s _ _ := hW
              refine lv_aload_n hx hb dX6_become_74 rfl (lv_at hl 0 rfl) ?_
              refine gt hF hW (ms_r (List.mem_of_getElem? (i := 0) rfl)) (ci := 22) rfl in_X6 5 (by decide) q1076 rfl (v := .ref av) rfl dX6_become_75 ?_
              refine lv_iload_n hx hb dX6_become_78 rfl (lv_at hl 2 rfl) ?_
              refine lv_aload_n hx hb dX6_become_79 rfl (lv_at hl 1 rfl) ?_
              refine gt hF hW (ms_r (List.mem_cons_of_mem _ (List.mem_cons_of_mem _ (List.mem_cons_of_mem _ (List.mem_cons_of_mem _ (List.mem_cons_of_mem _ (List.mem_cons_of_mem _ hb1))))))) (ci := 22) rfl in_X6 5 (by decide) q1076 rfl (v := .ref avb) rfl dX6_become_80 ?_
              refine lv_iload_n hx hb dX6_become_83 rfl (lv_at hl 2 rfl) ?_
              refine al_i hF hW (ms_r (List.mem_cons_of_mem _ (List.mem_cons_of_mem _ (List.mem_cons_of_mem _ (List.mem_cons_of_mem _ (List.mem_cons_of_mem _ (List.mem_cons_of_mem _ hb5))))))) 0 rfl (j := k2) (rfl) (by omega) (by decide) dX6_become_84 ?_
              refine az_i (Z) [(a, .inr (22, [.int (nI b.1.length), .int (nI b.2.2.length), .ref an, .ref aw, .ref af, .ref av, .ref at_])), (an, .inl (G.2.2.1 3, 8, .inr (.inl nf1))), (aw, .inl (G.2.2.1 0, 8, .inl wf1)), (af, .inl (G.2.2.1 0, 10, .inl (va_up ff1 k2 (ffb k2))))] ((at_, .inl (G.2.2.1 0, 10, .inl tf1)) :: Y) hF hW 0 rfl (j := k2) (rfl) (by omega) (by decide) dX6_become_85 (fun H locs hW => ?_)
              have hW : pM G (Z ++ ((a, .inr (22, [.int (nI b.1.length), .int (nI b.2.2.length), .ref an, .ref aw, .ref af, .ref av, .ref at_])) :: (an, .inl (G.2.2.1 3, 8, .inr (.inl nf1))) :: (aw, .inl (G.2.2.1 0, 8, .inl wf1)) :: (af, .inl (G.2.2.1 0, 10, .inl (va_up ff1 k2 (ffb k2)))) :: (av, .inl (G.2.2.1 0, 10, .inl (va_up vf1 k2 (vfb k2)))) :: (at_, .inl (G.2.2.1 0, 10, .inl tf1)) :: Y)) s _ _ := hW
              refine lv_aload_n hx hb dX6_become_86 rfl (lv_at hl 0 rfl) ?_
              refine gt hF hW (ms_r (List.mem_of_getElem? (i := 0) rfl)) (ci := 22) rfl in_X6 6 (by decide) q1078 rfl (v := .ref at_) rfl dX6_become_87 ?_
              refine lv_iload_n hx hb dX6_become_90 rfl (lv_at hl 2 rfl) ?_
              refine lv_aload_n hx hb dX6_become_91 rfl (lv_at hl 1 rfl) ?_
              refine gt hF hW (ms_r (List.mem_cons_of_mem _ (List.mem_cons_of_mem _ (List.mem_cons_of_mem _ (List.mem_cons_of_mem _ (List.mem_cons_of_mem _ (List.mem_cons_of_mem _ hb1))))))) (ci := 22) rfl in_X6 6 (by decide) q1078 rfl (v := .ref atb) rfl dX6_become_92 ?_
              refine lv_iload_n hx hb dX6_become_95 rfl (lv_at hl 2 rfl) ?_
              refine al_i hF hW (ms_r (List.mem_cons_of_mem _ (List.mem_cons_of_mem _ (List.mem_cons_of_mem _ (List.mem_cons_of_mem _ (List.mem_cons_of_mem _ (List.mem_cons_of_mem _ hb6))))))) 0 rfl (j := k2) (rfl) (by omega) (by decide) dX6_become_96 ?_
              refine az_i (Z) [(a, .inr (22, [.int (nI b.1.length), .int (nI b.2.2.length), .ref an, .ref aw, .ref af, .ref av, .ref at_])), (an, .inl (G.2.2.1 3, 8, .inr (.inl nf1))), (aw, .inl (G.2.2.1 0, 8, .inl wf1)), (af, .inl (G.2.2.1 0, 10, .inl (va_up ff1 k2 (ffb k2)))), (av, .inl (G.2.2.1 0, 10, .inl (va_up vf1 k2 (vfb k2))))] (Y) hF hW 0 rfl (j := k2) (rfl) (by omega) (by decide) dX6_become_97 (fun H locs hW => ?_)
              have hW : pM G (Z ++ ((a, .inr (22, [.int (nI b.1.length), .int (nI b.2.2.length), .ref an, .ref aw, .ref af, .ref av, .ref at_])) :: (an, .inl (G.2.2.1 3, 8, .inr (.inl nf1))) :: (aw, .inl (G.2.2.1 0, 8, .inl wf1)) :: (af, .inl (G.2.2.1 0, 10, .inl (va_up ff1 k2 (ffb k2)))) :: (av, .inl (G.2.2.1 0, 10, .inl (va_up vf1 k2 (vfb k2)))) :: (at_, .inl (G.2.2.1 0, 10, .inl (va_up tf1 k2 (tfb k2)))) :: Y)) s _ _ := hW
              refine lv_iinc (v := nI (k2 + 1)) (lv' := [(2, .int (nI (k2 + 1))), (0, .ref a), (1, .ref pb)]) hx hb dX6_become_98 hl (k := 2) rfl (nI_1 _) (by decide) rfl (fun ls hl => ?_)
              refine lv_goto (tgt := 56) hx hb dX6_become_101 (by decide) ?_
              exact ih2 (k2 + 1) (va_up ff1 k2 (ffb k2)) (va_up vf1 k2 (vfb k2)) (va_up tf1 k2 (tfb k2)) H locs ls (by have := nle_lt (a := 10) c_59; omega) (by have := nle_lt (a := 10) c_59; omega) (fun j hj => if h : j = k2 then by rw [h, up_s, up_s, up_s]; exact ⟨rfl, rfl, rfl⟩ else by rw [up_n h, up_n h, up_n h]; exact h2 j (by omega)) hW (lv_sub hl [1, 2, 0] rfl)
        exact loop_56 _ 0 ff vf tf _ _ _ (Nat.lt_succ_self _) (Nat.zero_le _) (fun j hj => absurd hj (Nat.not_lt_zero _)) hW (lv_sub hl [1, 2, 0] rfl)
      · have hk9 := nle_lt (a := 8) c_21
        refine lv_aload_n hx hb dX6_become_24 rfl (lv_at hl 0 rfl) ?_
        refine gt hF hW (ms_r (List.mem_of_getElem? (i := 0) rfl)) (ci := 22) rfl in_X6 2 (by decide) q1070 rfl (v := .ref an) rfl dX6_become_25 ?_
        refine lv_iload_n hx hb dX6_become_28 rfl (lv_at hl 2 rfl) ?_
        refine lv_aload_n hx hb dX6_become_29 rfl (lv_at hl 1 rfl) ?_
        refine gt hF hW (ms_r (List.mem_cons_of_mem _ (List.mem_cons_of_mem _ (List.mem_cons_of_mem _ (List.mem_cons_of_mem _ (List.mem_cons_of_mem _ (List.mem_cons_of_mem _ hb1))))))) (ci := 22) rfl in_X6 2 (by decide) q1070 rfl (v := .ref anb) rfl dX6_become_30 ?_
        refine lv_iload_n hx hb dX6_become_33 rfl (lv_at hl 2 rfl) ?_
        refine al_l hF hW (ms_r (List.mem_cons_of_mem _ (List.mem_cons_of_mem _ (List.mem_cons_of_mem _ (List.mem_cons_of_mem _ (List.mem_cons_of_mem _ (List.mem_cons_of_mem _ hb2))))))) 3 rfl (j := k) (rfl) (by omega) (by decide) dX6_become_34 ?_
        refine az_l (Z) [(a, .inr (22, [.int (nI b.1.length), .int (nI b.2.2.length), .ref an, .ref aw, .ref af, .ref av, .ref at_]))] ((aw, .inl (G.2.2.1 0, 8, .inl wf1)) :: (af, .inl (G.2.2.1 0, 10, .inl ff)) :: (av, .inl (G.2.2.1 0, 10, .inl vf)) :: (at_, .inl (G.2.2.1 0, 10, .inl tf)) :: Y) hF hW 3 rfl (j := k) (rfl) (by omega) (by decide) dX6_become_35 (fun H locs hW => ?_)
        have hW : pM G (Z ++ ((a, .inr (22, [.int (nI b.1.length), .int (nI b.2.2.length), .ref an, .ref aw, .ref af, .ref av, .ref at_])) :: (an, .inl (G.2.2.1 3, 8, .inr (.inl (va_up nf1 k (nfb k))))) :: (aw, .inl (G.2.2.1 0, 8, .inl wf1)) :: (af, .inl (G.2.2.1 0, 10, .inl ff)) :: (av, .inl (G.2.2.1 0, 10, .inl vf)) :: (at_, .inl (G.2.2.1 0, 10, .inl tf)) :: Y)) s _ _ := hW
        refine lv_aload_n hx hb dX6_become_36 rfl (lv_at hl 0 rfl) ?_
        refine gt hF hW (ms_r (List.mem_of_getElem? (i := 0) rfl)) (ci := 22) rfl in_X6 3 (by decide) q1072 rfl (v := .ref aw) rfl dX6_become_37 ?_
        refine lv_iload_n hx hb dX6_become_40 rfl (lv_at hl 2 rfl) ?_
        refine lv_aload_n hx hb dX6_become_41 rfl (lv_at hl 1 rfl) ?_
        refine gt hF hW (ms_r (List.mem_cons_of_mem _ (List.mem_cons_of_mem _ (List.mem_cons_of_mem _ (List.mem_cons_of_mem _ (List.mem_cons_of_mem _ (List.mem_cons_of_mem _ hb1))))))) (ci := 22) rfl in_X6 3 (by decide) q1072 rfl (v := .ref awb) rfl dX6_become_42 ?_
        refine lv_iload_n hx hb dX6_become_45 rfl (lv_at hl 2 rfl) ?_
        refine al_i hF hW (ms_r (List.mem_cons_of_mem _ (List.mem_cons_of_mem _ (List.mem_cons_of_mem _ (List.mem_cons_of_mem _ (List.mem_cons_of_mem _ (List.mem_cons_of_mem _ hb3))))))) 0 rfl (j := k) (rfl) (by omega) (by decide) dX6_become_46 ?_
        refine az_i (Z) [(a, .inr (22, [.int (nI b.1.length), .int (nI b.2.2.length), .ref an, .ref aw, .ref af, .ref av, .ref at_])), (an, .inl (G.2.2.1 3, 8, .inr (.inl (va_up nf1 k (nfb k)))))] ((af, .inl (G.2.2.1 0, 10, .inl ff)) :: (av, .inl (G.2.2.1 0, 10, .inl vf)) :: (at_, .inl (G.2.2.1 0, 10, .inl tf)) :: Y) hF hW 0 rfl (j := k) (rfl) (by omega) (by decide) dX6_become_47 (fun H locs hW => ?_)
        have hW : pM G (Z ++ ((a, .inr (22, [.int (nI b.1.length), .int (nI b.2.2.length), .ref an, .ref aw, .ref af, .ref av, .ref at_])) :: (an, .inl (G.2.2.1 3, 8, .inr (.inl (va_up nf1 k (nfb k))))) :: (aw, .inl (G.2.2.1 0, 8, .inl (va_up wf1 k (wfb k)))) :: (af, .inl (G.2.2.1 0, 10, .inl ff)) :: (av, .inl (G.2.2.1 0, 10, .inl vf)) :: (at_, .inl (G.2.2.1 0, 10, .inl tf)) :: Y)) s _ _ := hW
        refine lv_iinc (v := nI (k + 1)) (lv' := [(2, .int (nI (k + 1))), (0, .ref a), (1, .ref pb)]) hx hb dX6_become_48 hl (k := 2) rfl (nI_1 _) (by decide) rfl (fun ls hl => ?_)
        refine lv_goto (tgt := 18) hx hb dX6_become_51 (by decide) ?_
        exact ih (k + 1) (va_up nf1 k (nfb k)) (va_up wf1 k (wfb k)) H locs ls (by have := nle_lt (a := 8) c_21; omega) (by have := nle_lt (a := 8) c_21; omega) (fun j hj => if h : j = k then by rw [h, up_s, up_s]; exact ⟨rfl, rfl⟩ else by rw [up_n h, up_n h]; exact h1 j (by omega)) hW (lv_sub hl [1, 2, 0] rfl)
  exact loop_18 _ 0 nf wf _ _ _ (Nat.lt_succ_self _) (Nat.zero_le _) (fun j hj => absurd hj (Nat.not_lt_zero _)) hW (lv_sub hl [1, 2, 0] rfl)

set_option maxRecDepth 100000 in
set_option maxHeartbeats 8000000 in
theorem mX4_paper (l : Launch) (G : pG) (ad : Nat → Nat) (y : XV) (W0 T : va_W) (hT : ∀ q ∈ T, q ∈ W0) (S : AS) (n9 : Nat) (hS : SOk n9 S) (hn9 : n9 ≤ 64) (hMR : MR G T y S) (a0 a1 : Int32) : vx_Met l yX4_paper (wsW_ yX4_paper cX4_paper 5 (some .int) [((44 : Nat), (54 : Nat), (57 : Nat), (75 : Nat))]) ({ frames := 4, cells := 6, slots := 60, locals := 97 } : Room) (va_Pc [.ref (ad 0), .int a0, .int a1] (fun U => pW G (MWl G ad y ++ W0) U)) (va_Qi (fun r (u : XV × va_W) => r = (paperS S a0 a1).2 ∧ MR G (T ++ u.2) u.1 (paperS S a0 a1).1) (fun (u : XV × va_W) t9 => pW G (MWl G ad u.1 ++ (W0 ++ u.2)) t9) (pA G)) (fun _ _ _ _ => False) 6 60 (pA G) := by
  refine mh (by decide) (Nat.le_of_ble_eq_true rfl) ?_
  intro pp ee R s m below meth c ls Q hF hRt hLk htab hR hQ hW hl
  have hx := hF.1
  have hb := hF.2.1
  have hts := hF.2.2.2.2
  have hR1 : R.frames = 4 := by rw [hR]
  have hR2 : R.cells = 6 := by rw [hR]
  have hR3 : R.slots = 60 := by rw [hR]
  have hR4 : R.locals = 97 := by rw [hR]
  have hl : lv_has ls 5 [(0, .ref (ad 0)), (1, .int a0), (2, .int a1)] := hl
  have hW : pM G (MWl G ad y ++ W0) s s.heap [] := hW
  obtain ⟨m0, m1, m2, m3, m4, m5, m6, m7, m8, m9, m10, m11, m12, m13, m14, m15, m16, m17, m18, m19, m20, m21, m22⟩ := hMR
  have hI := hS.inv
  have b0 := hI.1.1
  have b1 := hI.2.1.1
  have b2 := hI.2.2.1.1
  have b3 := hI.2.2.2.1.1
  have b4 := hI.2.2.2.2.1.1
  have b5 := hI.2.2.2.2.2
  have b6 := hS.2.1
  have b7 := hS.2.2.1
  have b8 := hS.2.2.2.1
  have b9 := hS.2.2.2.2.1
  cases hi0 : ixn a0 (cN S.1) with
  | none =>
    cases hi1 : ixn a1 S.2.2.2.1 with
    | none =>
      refine lv_aload_n hx hb dX4_paper_0 rfl (lv_at hl 0 rfl) ?_
      refine lv_iconst (v := 0) hx hb dX4_paper_1 (by decide) ?_
      refine pM0_thrown hF hW q1095 dX4_paper_2 (fun H locs hW => ?_)
      have hW : pM G (MWl G ad (xi y 0 0) ++ W0) s _ _ := hW
      refine lv_iload_n hx hb dX4_paper_5 rfl (lv_at hl 1 rfl) ?_
      refine lv_iconst (v := 0) hx hb dX4_paper_6 (by decide) ?_
      refine lv_aload_n hx hb dX4_paper_7 rfl (lv_at hl 0 rfl) ?_
      refine gM0_now hF hW q1104 (v := nI (cN S.1)) (m10) dX4_paper_8 ?_
      refine cl_i (ru_S (As := [.int a0, .int 0, .int (nI (cN S.1))]) (rest := []) hF (mX4_in l G (MWl G ad (xi y 0 0) ++ W0) a0 0 (nI (cN S.1))) (va_cwS 3 hts (lw_S q1307 q1308 q66 q1309) rfl rfl rfl (by decide +kernel) ⟨lb hR1 rfl, lb hR4 rfl⟩) hW rfl rfl hl.1 rfl (lv_room (Nat.le_of_ble_eq_true rfl)) dX4_paper_11 ⟨by omega, by omega⟩) hW (fun r_ u_ H locs h_ hW => ?_)
      have hW : pM G (MWl G ad (xi y 0 0) ++ W0) s _ _ := hW
      rcases h_ with ⟨rfl, h_⟩ | ⟨rfl, h_⟩
      · exact absurd h_ (ixn_no hi0 (by omega))
      · refine lv_if_eq (tgt := 25) hx hb dX4_paper_14 (by decide) (fun c_14 => ?_) (fun c_14 => absurd c_14 (by decide))
        refine lv_aload_n hx hb dX4_paper_25 rfl (lv_at hl 0 rfl) ?_
        refine lv_iconst (v := 2) hx hb dX4_paper_26 (by decide) ?_
        refine cl_i (ru_V (As := [.int 2]) (rest := []) hF (mX4_refused l G ad (xi y 0 0) W0 2) (cwV 1 hts (lw_V q1255 q1257 qs29 q66 q1258) rfl rfl rfl (by decide +kernel) ⟨lb hR1 rfl, lb hR4 rfl⟩) hW (List.mem_of_getElem? (i := 0) rfl) (ci := 20) rfl rfl rfl hl.1 rfl (lv_room (Nat.le_of_ble_eq_true rfl)) dX4_paper_27 ⟨by omega, by omega⟩) hW (fun r_1 u_2 H locs h_3 hW => ?_)
        obtain ⟨rfl, rfl⟩ : r_1 = (-1) ∧ u_2 = _ := h_3
        have hW : pM G (MWl G ad (xi (xi (xi y 0 0) 1 2) 2 (-1)) ++ W0) s _ _ := hW
        exact re_i hF hRt hLk hQ (by omega) (by omega) dX4_paper_30 ((xi (xi (xi y 0 0) 1 2) 2 (-1)), []) (by unfold paperS; rw [hi0]; exact ⟨rfl, MR.nil ⟨m0, m1, m2, m3, m4, m5, m6, m7, m8, m9, m10, m11, m12, m13, m14, rfl, m16, rfl, m18, m19, m20, m21, m22⟩⟩) (pM.nil (hW))
    | some k1 =>
      obtain ⟨hk1, rfl⟩ := ixn_some hi1 (by omega)
      refine lv_aload_n hx hb dX4_paper_0 rfl (lv_at hl 0 rfl) ?_
      refine lv_iconst (v := 0) hx hb dX4_paper_1 (by decide) ?_
      refine pM0_thrown hF hW q1095 dX4_paper_2 (fun H locs hW => ?_)
      have hW : pM G (MWl G ad (xi y 0 0) ++ W0) s _ _ := hW
      refine lv_iload_n hx hb dX4_paper_5 rfl (lv_at hl 1 rfl) ?_
      refine lv_iconst (v := 0) hx hb dX4_paper_6 (by decide) ?_
      refine lv_aload_n hx hb dX4_paper_7 rfl (lv_at hl 0 rfl) ?_
      refine gM0_now hF hW q1104 (v := nI (cN S.1)) (m10) dX4_paper_8 ?_
      refine cl_i (ru_S (As := [.int a0, .int 0, .int (nI (cN S.1))]) (rest := []) hF (mX4_in l G (MWl G ad (xi y 0 0) ++ W0) a0 0 (nI (cN S.1))) (va_cwS 3 hts (lw_S q1307 q1308 q66 q1309) rfl rfl rfl (by decide +kernel) ⟨lb hR1 rfl, lb hR4 rfl⟩) hW rfl rfl hl.1 rfl (lv_room (Nat.le_of_ble_eq_true rfl)) dX4_paper_11 ⟨by omega, by omega⟩) hW (fun r_ u_ H locs h_ hW => ?_)
      have hW : pM G (MWl G ad (xi y 0 0) ++ W0) s _ _ := hW
      rcases h_ with ⟨rfl, h_⟩ | ⟨rfl, h_⟩
      · exact absurd h_ (ixn_no hi0 (by omega))
      · refine lv_if_eq (tgt := 25) hx hb dX4_paper_14 (by decide) (fun c_14 => ?_) (fun c_14 => absurd c_14 (by decide))
        refine lv_aload_n hx hb dX4_paper_25 rfl (lv_at hl 0 rfl) ?_
        refine lv_iconst (v := 2) hx hb dX4_paper_26 (by decide) ?_
        refine cl_i (ru_V (As := [.int 2]) (rest := []) hF (mX4_refused l G ad (xi y 0 0) W0 2) (cwV 1 hts (lw_V q1255 q1257 qs29 q66 q1258) rfl rfl rfl (by decide +kernel) ⟨lb hR1 rfl, lb hR4 rfl⟩) hW (List.mem_of_getElem? (i := 0) rfl) (ci := 20) rfl rfl rfl hl.1 rfl (lv_room (Nat.le_of_ble_eq_true rfl)) dX4_paper_27 ⟨by omega, by omega⟩) hW (fun r_4 u_5 H locs h_6 hW => ?_)
        obtain ⟨rfl, rfl⟩ : r_4 = (-1) ∧ u_5 = _ := h_6
        have hW : pM G (MWl G ad (xi (xi (xi y 0 0) 1 2) 2 (-1)) ++ W0) s _ _ := hW
        exact re_i hF hRt hLk hQ (by omega) (by omega) dX4_paper_30 ((xi (xi (xi y 0 0) 1 2) 2 (-1)), []) (by unfold paperS; rw [hi0]; exact ⟨rfl, MR.nil ⟨m0, m1, m2, m3, m4, m5, m6, m7, m8, m9, m10, m11, m12, m13, m14, rfl, m16, rfl, m18, m19, m20, m21, m22⟩⟩) (pM.nil (hW))
  | some k0 =>
    obtain ⟨hk0, rfl⟩ := ixn_some hi0 (by omega)
    cases hi1 : ixn a1 S.2.2.2.1 with
    | none =>
      refine lv_aload_n hx hb dX4_paper_0 rfl (lv_at hl 0 rfl) ?_
      refine lv_iconst (v := 0) hx hb dX4_paper_1 (by decide) ?_
      refine pM0_thrown hF hW q1095 dX4_paper_2 (fun H locs hW => ?_)
      have hW : pM G (MWl G ad (xi y 0 0) ++ W0) s _ _ := hW
      refine lv_iload_n hx hb dX4_paper_5 rfl (lv_at hl 1 rfl) ?_
      refine lv_iconst (v := 0) hx hb dX4_paper_6 (by decide) ?_
      refine lv_aload_n hx hb dX4_paper_7 rfl (lv_at hl 0 rfl) ?_
      refine gM0_now hF hW q1104 (v := nI (cN S.1)) (m10) dX4_paper_8 ?_
      refine cl_i (ru_S (As := [.int (nI k0), .int 0, .int (nI (cN S.1))]) (rest := []) hF (mX4_in l G (MWl G ad (xi y 0 0) ++ W0) (nI k0) 0 (nI (cN S.1))) (va_cwS 3 hts (lw_S q1307 q1308 q66 q1309) rfl rfl rfl (by decide +kernel) ⟨lb hR1 rfl, lb hR4 rfl⟩) hW rfl rfl hl.1 rfl (lv_room (Nat.le_of_ble_eq_true rfl)) dX4_paper_11 ⟨by omega, by omega⟩) hW (fun r_ u_ H locs h_ hW => ?_)
      have hW : pM G (MWl G ad (xi y 0 0) ++ W0) s _ _ := hW
      rcases h_ with ⟨rfl, h_⟩ | ⟨rfl, h_⟩
      · refine lv_if_eq (tgt := 25) hx hb dX4_paper_14 (by decide) (fun c_14 => absurd c_14 (by decide)) (fun c_14 => ?_)
        refine lv_aload_n hx hb dX4_paper_17 rfl (lv_at hl 0 rfl) ?_
        refine lv_iload_n hx hb dX4_paper_18 rfl (lv_at hl 2 rfl) ?_
        refine cl_i (ru_V (As := [.int a1]) (rest := []) hF (mX4_isTaped l G ad (xi y 0 0) W0 a1) (cwV 1 hts (lw_V q1259 q1261 qs30 q66 q1262) rfl rfl rfl (by decide +kernel) ⟨lb hR1 rfl, lb hR4 rfl⟩) hW (List.mem_of_getElem? (i := 0) rfl) (ci := 20) rfl rfl rfl hl.1 rfl (lv_room (Nat.le_of_ble_eq_true rfl)) dX4_paper_19 ⟨by omega, by omega⟩) hW (fun r_ u_ H locs h_ hW => ?_)
        have hW : pM G (MWl G ad (xi y 0 0) ++ W0) s _ _ := hW
        rcases h_ with ⟨rfl, h_⟩ | ⟨rfl, h_⟩
        · exact absurd h_ (fun z => ixn_no hi1 (by omega) (by rw [show (xi y 0 0).1 11 = nI S.2.2.2.1 from m13] at z; exact z))
        · refine lv_if_ne (tgt := 31) hx hb dX4_paper_22 (by decide) (fun c_22 => absurd c_22 (by decide)) (fun c_22 => ?_)
          refine lv_aload_n hx hb dX4_paper_25 rfl (lv_at hl 0 rfl) ?_
          refine lv_iconst (v := 2) hx hb dX4_paper_26 (by decide) ?_
          refine cl_i (ru_V (As := [.int 2]) (rest := []) hF (mX4_refused l G ad (xi y 0 0) W0 2) (cwV 1 hts (lw_V q1255 q1257 qs29 q66 q1258) rfl rfl rfl (by decide +kernel) ⟨lb hR1 rfl, lb hR4 rfl⟩) hW (List.mem_of_getElem? (i := 0) rfl) (ci := 20) rfl rfl rfl hl.1 rfl (lv_room (Nat.le_of_ble_eq_true rfl)) dX4_paper_27 ⟨by omega, by omega⟩) hW (fun r_7 u_8 H locs h_9 hW => ?_)
          obtain ⟨rfl, rfl⟩ : r_7 = (-1) ∧ u_8 = _ := h_9
          have hW : pM G (MWl G ad (xi (xi (xi y 0 0) 1 2) 2 (-1)) ++ W0) s _ _ := hW
          exact re_i hF hRt hLk hQ (by omega) (by omega) dX4_paper_30 ((xi (xi (xi y 0 0) 1 2) 2 (-1)), []) (by unfold paperS; rw [hi0, hi1]; exact ⟨rfl, MR.nil ⟨m0, m1, m2, m3, m4, m5, m6, m7, m8, m9, m10, m11, m12, m13, m14, rfl, m16, rfl, m18, m19, m20, m21, m22⟩⟩) (pM.nil (hW))
      · exact absurd (ixn_in hi0 (by omega)) h_
    | some k1 =>
      obtain ⟨hk1, rfl⟩ := ixn_some hi1 (by omega)
      refine lv_aload_n hx hb dX4_paper_0 rfl (lv_at hl 0 rfl) ?_
      refine lv_iconst (v := 0) hx hb dX4_paper_1 (by decide) ?_
      refine pM0_thrown hF hW q1095 dX4_paper_2 (fun H locs hW => ?_)
      have hW : pM G (MWl G ad (xi y 0 0) ++ W0) s _ _ := hW
      refine lv_iload_n hx hb dX4_paper_5 rfl (lv_at hl 1 rfl) ?_
      refine lv_iconst (v := 0) hx hb dX4_paper_6 (by decide) ?_
      refine lv_aload_n hx hb dX4_paper_7 rfl (lv_at hl 0 rfl) ?_
      refine gM0_now hF hW q1104 (v := nI (cN S.1)) (m10) dX4_paper_8 ?_
      refine cl_i (ru_S (As := [.int (nI k0), .int 0, .int (nI (cN S.1))]) (rest := []) hF (mX4_in l G (MWl G ad (xi y 0 0) ++ W0) (nI k0) 0 (nI (cN S.1))) (va_cwS 3 hts (lw_S q1307 q1308 q66 q1309) rfl rfl rfl (by decide +kernel) ⟨lb hR1 rfl, lb hR4 rfl⟩) hW rfl rfl hl.1 rfl (lv_room (Nat.le_of_ble_eq_true rfl)) dX4_paper_11 ⟨by omega, by omega⟩) hW (fun r_ u_ H locs h_ hW => ?_)
      have hW : pM G (MWl G ad (xi y 0 0) ++ W0) s _ _ := hW
      rcases h_ with ⟨rfl, h_⟩ | ⟨rfl, h_⟩
      · refine lv_if_eq (tgt := 25) hx hb dX4_paper_14 (by decide) (fun c_14 => absurd c_14 (by decide)) (fun c_14 => ?_)
        refine lv_aload_n hx hb dX4_paper_17 rfl (lv_at hl 0 rfl) ?_
        refine lv_iload_n hx hb dX4_paper_18 rfl (lv_at hl 2 rfl) ?_
        refine cl_i (ru_V (As := [.int (nI k1)]) (rest := []) hF (mX4_isTaped l G ad (xi y 0 0) W0 (nI k1)) (cwV 1 hts (lw_V q1259 q1261 qs30 q66 q1262) rfl rfl rfl (by decide +kernel) ⟨lb hR1 rfl, lb hR4 rfl⟩) hW (List.mem_of_getElem? (i := 0) rfl) (ci := 20) rfl rfl rfl hl.1 rfl (lv_room (Nat.le_of_ble_eq_true rfl)) dX4_paper_19 ⟨by omega, by omega⟩) hW (fun r_ u_ H locs h_ hW => ?_)
        have hW : pM G (MWl G ad (xi y 0 0) ++ W0) s _ _ := hW
        rcases h_ with ⟨rfl, h_⟩ | ⟨rfl, h_⟩
        · refine lv_if_ne (tgt := 31) hx hb dX4_paper_22 (by decide) (fun c_22 => ?_) (fun c_22 => absurd c_22 (by decide))
          refine lv_aload_n hx hb dX4_paper_31 rfl (lv_at hl 0 rfl) ?_
          refine lv_iconst (v := 0) hx hb dX4_paper_32 (by decide) ?_
          refine pM0_fault hF hW q1098 dX4_paper_33 (fun H locs hW => ?_)
          have hW : pM G (MWl G ad (xi (xi y 0 0) 3 0) ++ W0) s _ _ := hW
          refine nw (ci := 22) hF hW rfl in_X6 tyX6 tyX6_ok q1037 q1061 q68 (fs := [.int 0, .int 0, .null, .null, .null, .null, .null]) (fun j hj => by match j, hj with | 0, _ => rfl | 1, _ => rfl | 2, _ => rfl | 3, _ => rfl | 4, _ => rfl | 5, _ => rfl | 6, _ => rfl) (by omega) (by omega) dX4_paper_36 (fun qo_10 H hW => ?_)
          have hW := hW.asc
          have hW : pM G (MWl G ad (xi (xi y 0 0) 3 0) ++ (W0 ++ [(qo_10, .inr (22, [.int 0, .int 0, .null, .null, .null, .null, .null]))])) s _ _ := hW
          refine lv_dup hx hb dX4_paper_39 rfl ?_
          have hW := pM.csa (A := MWl G ad (xi (xi y 0 0) 3 0)) (B := W0) hW
          refine cl_v (ru_IN (As := []) (rest := [.ref qo_10]) hF (mX6_init l G (MWl G ad (xi (xi y 0 0) 3 0) ++ W0) qo_10) ⟨va_cnB 0 hts (lw_meth q1064) rfl rfl rfl (hW.2.2.2.2.2.1 _ (List.mem_of_getElem? (i := 26) rfl)) (hts _ q68) (by decide +kernel) ⟨lb hR1 rfl, lb hR4 rfl⟩, rfl, hts _ q1063⟩ hW rfl rfl hl.1 rfl (lv_room (Nat.le_of_ble_eq_true rfl)) dX4_paper_40 ⟨by omega, by omega⟩) hW (fun u_ H locs _ hW => ?_)
          obtain ⟨an, aw, af, av, at_⟩ := u_
          have hW := pM.rot (A := MWl G ad (xi (xi y 0 0) 3 0)) (B := W0) hW
          have hW : pM G (MWl G ad (xi (xi y 0 0) 3 0) ++ ((qo_10, .inr (22, [.int (nI nT.1.length), .int (nI nT.2.2.length), .ref an, .ref aw, .ref af, .ref av, .ref at_])) :: (an, .inl (G.2.2.1 3, 8, .inr (.inl (fun _ => 0)))) :: (aw, .inl (G.2.2.1 0, 8, .inl (fun _ => 0))) :: (af, .inl (G.2.2.1 0, 10, .inl (fun _ => 0))) :: (av, .inl (G.2.2.1 0, 10, .inl (fun _ => 0))) :: (at_, .inl (G.2.2.1 0, 10, .inl (fun _ => 0))) :: W0)) s _ _ := hW
          refine lv_astore_n (lv' := [(3, .ref qo_10), (0, .ref (ad 0)), (1, .int (nI k0)), (2, .int (nI k1))]) hx hb dX4_paper_43 rfl hl (by decide) rfl (fun ls hl => ?_)
          refine lv_aload_n hx hb dX4_paper_44 rfl (lv_at hl 1 rfl) ?_
          refine lv_aload_n hx hb dX4_paper_45 rfl (lv_at hl 0 rfl) ?_
          refine lv_iload_n hx hb dX4_paper_46 rfl (lv_at hl 3 rfl) ?_
          refine lv_bipush (v := 8) hx hb dX4_paper_47 (by decide) ?_
          refine lv_bipush (v := 10) hx hb dX4_paper_49 (by decide) ?_
          have hn : k1 ≤ 300 := by omega
          have hW : pM G (MWl G ad (mdx (xi (xi y 0 0) 3 0) (xi (xi y 0 0) 3 0).1 ((xi (xi y 0 0) 3 0).2.2.2.2.1 0)) ++ ((qo_10, .inr (22, [.int (nI nT.1.length), .int (nI nT.2.2.length), .ref an, .ref aw, .ref af, .ref av, .ref at_])) :: (an, .inl (G.2.2.1 3, 8, .inr (.inl (fun _ => 0)))) :: (aw, .inl (G.2.2.1 0, 8, .inl (fun _ => 0))) :: (af, .inl (G.2.2.1 0, 10, .inl (fun _ => 0))) :: (av, .inl (G.2.2.1 0, 10, .inl (fun _ => 0))) :: (at_, .inl (G.2.2.1 0, 10, .inl (fun _ => 0))) :: W0)) s _ _ := hW
          refine cx_v (rx_V (As := [.ref qo_10, .int (nI k1), .int 8, .int 10]) (rest := []) hF (mX4_reads l G ad (xi (xi y 0 0) 3 0) W0 (xi (xi y 0 0) 3 0).1 ((xi (xi y 0 0) 3 0).2.2.2.2.1 0) k1 hn (cW S.1) m1.1 b0 m0 hI.1.2.2.1 qo_10 an aw af av at_ (fun _ => 0) (fun _ => 0) (fun _ => 0) (fun _ => 0) (fun _ => 0) nT MHc_n 8 10 (nT_ok) (by omega) (by omega)) (cwV 4 hts (lw_V q1314 q1316 qs39 q66 q1317) rfl rfl rfl (by decide +kernel) ⟨lb hR1 rfl, lb hR4 rfl⟩) hW (List.mem_of_getElem? (i := 0) rfl) (ci := 20) rfl rfl rfl hl.1 rfl (lv_room (Nat.le_of_ble_eq_true rfl)) dX4_paper_51 ⟨by omega, by omega⟩) hW (fun u_12 H locs h_13 hW => ?_) (fun u_12 H locs h_13 hW => ?_)
          · obtain ⟨e1, e2, v2, lt2⟩ := u_12
            have hrd : readS S k1 8 10 nT = .inl (e1, e2) := by unfold readS; rw [← m14]; exact h_13
            have hW : pM G (MWl G ad (mdx (xi (xi (xi (xi (xi y 0 0) 3 0) 11 0) 21 (nI e1)) 22 (nI e2)) v2 lt2) ++ W0) s _ _ := hW
            refine ca hF htab rfl rfl (by decide) q1039 (List.mem_of_getElem? (i := 39) rfl) hW (List.mem_of_getElem? (i := 20) rfl) (ci := 21) rfl ?_
            refine lv_astore (lv' := [(4, .ref (ad 20)), (3, .ref qo_10), (0, .ref (ad 0)), (1, .int (nI k0)), (2, .int (nI k1))]) hx hb dX4_paper_57 hl (by decide) rfl (fun ls hl => ?_)
            refine lv_aload_n hx hb dX4_paper_59 rfl (lv_at hl 2 rfl) ?_
            refine lv_aload hx hb dX4_paper_60 (lv_at hl 0 rfl) ?_
            refine cl_i (ru_V (As := [.ref (ad 20)]) (rest := []) hF (mX4_wrong l G ad (mdx (xi (xi (xi (xi (xi y 0 0) 3 0) 11 0) 21 (nI e1)) 22 (nI e2)) v2 lt2) W0) (cwV 1 hts (lw_V q1334 q1336 qs43 q66 q1337) rfl rfl rfl (by decide +kernel) ⟨lb hR1 rfl, lb hR4 rfl⟩) hW (List.mem_of_getElem? (i := 0) rfl) (ci := 20) rfl rfl rfl hl.1 rfl (lv_room (Nat.le_of_ble_eq_true rfl)) dX4_paper_62 ⟨by omega, by omega⟩) hW (fun r_ u_ H locs h_ hW => ?_)
            obtain ⟨rfl, rfl⟩ : r_ = -1 ∧ u_ = _ := h_
            have hW : pM G (MWl G ad (xi (xi (xi (mdx (xi (xi (xi (xi (xi y 0 0) 3 0) 11 0) 21 (nI e1)) 22 (nI e2)) v2 lt2) 1 4) 2 (nI e2)) 3 (nI e1)) ++ W0) s _ _ := hW
            exact re_i hF hRt hLk hQ (by omega) (by omega) dX4_paper_65 ((xi (xi (xi (mdx (xi (xi (xi (xi (xi y 0 0) 3 0) 11 0) 21 (nI e1)) 22 (nI e2)) v2 lt2) 1 4) 2 (nI e2)) 3 (nI e1)), []) (by unfold paperS; rw [hi0, hi1]; dsimp only; rw [hrd]; exact ⟨rfl, MR.nil ⟨m0, m1, m2, m3, m4, m5, m6, m7, m8, m9, m10, m11, m12, rfl, m14, rfl, rfl, rfl, m18, m19, m20, m21, m22⟩⟩) (pM.nil (hW))
          · obtain ⟨t9, nf9, wf9, ff9, vf9, tf9, v2, lt2⟩ := u_12
            obtain ⟨hrd, hok9, ht9⟩ := h_13
            have hrd : readS S k1 8 10 nT = .inr t9 := by unfold readS; rw [← m14]; exact hrd
            have hok9 : TxOk (cW S.1).length 8 10 t9 := hok9
            have ht9 : MHc t9 nf9 wf9 ff9 vf9 tf9 := ht9
            have hW : pM G (MWl G ad (mdx (xi (xi (xi y 0 0) 3 0) 11 0) v2 lt2) ++ ((qo_10, .inr (22, [.int (nI t9.1.length), .int (nI t9.2.2.length), .ref an, .ref aw, .ref af, .ref av, .ref at_])) :: (an, .inl (G.2.2.1 3, 8, .inr (.inl nf9))) :: (aw, .inl (G.2.2.1 0, 8, .inl wf9)) :: (af, .inl (G.2.2.1 0, 10, .inl ff9)) :: (av, .inl (G.2.2.1 0, 10, .inl vf9)) :: (at_, .inl (G.2.2.1 0, 10, .inl tf9)) :: W0)) s _ _ := hW
            refine lv_goto (tgt := 66) hx hb dX4_paper_54 (by decide) ?_
            refine lv_aload_n hx hb dX4_paper_66 rfl (lv_at hl 1 rfl) ?_
            refine gM0_papers hF hW q1100 (v := nI (cP S.1).length) (m2) dX4_paper_67 ?_
            refine lv_bipush (v := 20) hx hb dX4_paper_70 (by decide) ?_
            refine lv_icmp_ne (tgt := 81) hx hb dX4_paper_72 (by decide) (fun c_72 => ?_) (fun c_72 => ?_)
            · have hfl : ¬ (cP S.1).length = 20 := fun z => c_72 (by rw [z]; rfl)
              have hml : ∀ z ∈ T, z ∈ T ++ [(qo_10, .inr (22, [.int (nI t9.1.length), .int (nI t9.2.2.length), .ref an, .ref aw, .ref af, .ref av, .ref at_])), (an, .inl (G.2.2.1 3, 8, .inr (.inl nf9))), (aw, .inl (G.2.2.1 0, 8, .inl wf9)), (af, .inl (G.2.2.1 0, 10, .inl ff9)), (av, .inl (G.2.2.1 0, 10, .inl vf9)), (at_, .inl (G.2.2.1 0, 10, .inl tf9))] := fun z h => List.mem_append_left _ h
              have hmt : MT G (T ++ [(qo_10, .inr (22, [.int (nI t9.1.length), .int (nI t9.2.2.length), .ref an, .ref aw, .ref af, .ref av, .ref at_])), (an, .inl (G.2.2.1 3, 8, .inr (.inl nf9))), (aw, .inl (G.2.2.1 0, 8, .inl wf9)), (af, .inl (G.2.2.1 0, 10, .inl ff9)), (av, .inl (G.2.2.1 0, 10, .inl vf9)), (at_, .inl (G.2.2.1 0, 10, .inl tf9))]) qo_10 t9 := ⟨an, aw, af, av, at_, nf9, wf9, ff9, vf9, tf9, List.mem_append_right _ (List.mem_of_getElem? (i := 0) rfl), List.mem_append_right _ (List.mem_of_getElem? (i := 1) rfl), List.mem_append_right _ (List.mem_of_getElem? (i := 2) rfl), List.mem_append_right _ (List.mem_of_getElem? (i := 3) rfl), List.mem_append_right _ (List.mem_of_getElem? (i := 4) rfl), List.mem_append_right _ (List.mem_of_getElem? (i := 5) rfl), ht9⟩
              refine lv_aload_n hx hb dX4_paper_81 rfl (lv_at hl 1 rfl) ?_
              refine gM0_paper hF hW q1107 dX4_paper_82 ?_
              refine lv_aload_n hx hb dX4_paper_85 rfl (lv_at hl 1 rfl) ?_
              refine gM0_papers hF hW q1100 (v := nI (cP S.1).length) (m2) dX4_paper_86 ?_
              refine lv_aload_n hx hb dX4_paper_89 rfl (lv_at hl 0 rfl) ?_
              refine sM3 hF hW (ms_r (List.mem_of_getElem? (i := 0) rfl)) (ci := 22) rfl rfl (j := (cP S.1).length) (rfl) (by omega) dX4_paper_90 (fun H locs hW => ?_)
              have hW : pM G (MWl G ad (xr (mdx (xi (xi (xi y 0 0) 3 0) 11 0) v2 lt2) 0 (va_up ((mdx (xi (xi (xi y 0 0) 3 0) 11 0) v2 lt2).2.2.1 0) ((cP S.1).length) (some qo_10))) ++ ((qo_10, .inr (22, [.int (nI t9.1.length), .int (nI t9.2.2.length), .ref an, .ref aw, .ref af, .ref av, .ref at_])) :: (an, .inl (G.2.2.1 3, 8, .inr (.inl nf9))) :: (aw, .inl (G.2.2.1 0, 8, .inl wf9)) :: (af, .inl (G.2.2.1 0, 10, .inl ff9)) :: (av, .inl (G.2.2.1 0, 10, .inl vf9)) :: (at_, .inl (G.2.2.1 0, 10, .inl tf9)) :: W0)) s _ _ := hW
              refine lv_aload_n hx hb dX4_paper_91 rfl (lv_at hl 1 rfl) ?_
              refine gM0_paperDay hF hW q1111 dX4_paper_92 ?_
              refine lv_aload_n hx hb dX4_paper_95 rfl (lv_at hl 1 rfl) ?_
              refine gM0_papers hF hW q1100 (v := nI (cP S.1).length) (m2) dX4_paper_96 ?_
              refine lv_iload_n hx hb dX4_paper_99 rfl (lv_at hl 2 rfl) ?_
              refine sM7 hF hW (j := (cP S.1).length) (rfl) (by omega) dX4_paper_100 (fun H locs hW => ?_)
              have hW : pM G (MWl G ad (xr (xa (mdx (xi (xi (xi y 0 0) 3 0) 11 0) v2 lt2) 1 (va_up ((mdx (xi (xi (xi y 0 0) 3 0) 11 0) v2 lt2).2.1 1) ((cP S.1).length) (nI k0))) 0 (va_up ((mdx (xi (xi (xi y 0 0) 3 0) 11 0) v2 lt2).2.2.1 0) ((cP S.1).length) (some qo_10))) ++ ((qo_10, .inr (22, [.int (nI t9.1.length), .int (nI t9.2.2.length), .ref an, .ref aw, .ref af, .ref av, .ref at_])) :: (an, .inl (G.2.2.1 3, 8, .inr (.inl nf9))) :: (aw, .inl (G.2.2.1 0, 8, .inl wf9)) :: (af, .inl (G.2.2.1 0, 10, .inl ff9)) :: (av, .inl (G.2.2.1 0, 10, .inl vf9)) :: (at_, .inl (G.2.2.1 0, 10, .inl tf9)) :: W0)) s _ _ := hW
              refine lv_aload_n hx hb dX4_paper_101 rfl (lv_at hl 1 rfl) ?_
              refine gM0_paperKnown hF hW q1112 dX4_paper_102 ?_
              refine lv_aload_n hx hb dX4_paper_105 rfl (lv_at hl 1 rfl) ?_
              refine gM0_papers hF hW q1100 (v := nI (cP S.1).length) (m2) dX4_paper_106 ?_
              refine lv_aload_n hx hb dX4_paper_109 rfl (lv_at hl 1 rfl) ?_
              refine gM0_now hF hW q1104 (v := nI (cN S.1)) (m10) dX4_paper_110 ?_
              refine sM8 hF hW (j := (cP S.1).length) (rfl) (by omega) dX4_paper_113 (fun H locs hW => ?_)
              have hW : pM G (MWl G ad (xr (xa (xa (mdx (xi (xi (xi y 0 0) 3 0) 11 0) v2 lt2) 1 (va_up ((mdx (xi (xi (xi y 0 0) 3 0) 11 0) v2 lt2).2.1 1) ((cP S.1).length) (nI k0))) 2 (va_up ((mdx (xi (xi (xi y 0 0) 3 0) 11 0) v2 lt2).2.1 2) ((cP S.1).length) (nI (cN S.1)))) 0 (va_up ((mdx (xi (xi (xi y 0 0) 3 0) 11 0) v2 lt2).2.2.1 0) ((cP S.1).length) (some qo_10))) ++ ((qo_10, .inr (22, [.int (nI t9.1.length), .int (nI t9.2.2.length), .ref an, .ref aw, .ref af, .ref av, .ref at_])) :: (an, .inl (G.2.2.1 3, 8, .inr (.inl nf9))) :: (aw, .inl (G.2.2.1 0, 8, .inl wf9)) :: (af, .inl (G.2.2.1 0, 10, .inl ff9)) :: (av, .inl (G.2.2.1 0, 10, .inl vf9)) :: (at_, .inl (G.2.2.1 0, 10, .inl tf9)) :: W0)) s _ _ := hW
              refine lv_aload_n hx hb dX4_paper_114 rfl (lv_at hl 1 rfl) ?_
              refine lv_iconst (v := 2) hx hb dX4_paper_115 (by decide) ?_
              refine lv_iconst (v := 0) hx hb dX4_paper_116 (by decide) ?_
              refine lv_null hx hb dX4_paper_117 ?_
              refine cl_v (ru_V (As := [.int 2, .int 0, .null]) (rest := []) hF (mX4_act_n l G ad (xr (xa (xa (mdx (xi (xi (xi y 0 0) 3 0) 11 0) v2 lt2) 1 (va_up ((mdx (xi (xi (xi y 0 0) 3 0) 11 0) v2 lt2).2.1 1) ((cP S.1).length) (nI k0))) 2 (va_up ((mdx (xi (xi (xi y 0 0) 3 0) 11 0) v2 lt2).2.1 2) ((cP S.1).length) (nI (cN S.1)))) 0 (va_up ((mdx (xi (xi (xi y 0 0) 3 0) 11 0) v2 lt2).2.2.1 0) ((cP S.1).length) (some qo_10))) ((qo_10, .inr (22, [.int (nI t9.1.length), .int (nI t9.2.2.length), .ref an, .ref aw, .ref af, .ref av, .ref at_])) :: (an, .inl (G.2.2.1 3, 8, .inr (.inl nf9))) :: (aw, .inl (G.2.2.1 0, 8, .inl wf9)) :: (af, .inl (G.2.2.1 0, 10, .inl ff9)) :: (av, .inl (G.2.2.1 0, 10, .inl vf9)) :: (at_, .inl (G.2.2.1 0, 10, .inl tf9)) :: W0) S.2.1.length (by omega) (m11) 2 0) (cwV 3 hts (lw_V q1283 q1285 qs35 q66 q1286) rfl rfl rfl (by decide +kernel) ⟨lb hR1 rfl, lb hR4 rfl⟩) hW (List.mem_of_getElem? (i := 0) rfl) (ci := 20) rfl rfl rfl hl.1 rfl (lv_room (Nat.le_of_ble_eq_true rfl)) dX4_paper_118 ⟨by omega, by omega⟩) hW (fun u_15 H locs h_16 hW => ?_)
              obtain rfl : u_15 = _ := h_16
              have hW : pM G (MWl G ad (xr (xr (xa (xa (xa (xa (xi (mdx (xi (xi (xi y 0 0) 3 0) 11 0) v2 lt2) 10 (nI (S.2.1.length + 1))) 1 (va_up ((mdx (xi (xi (xi y 0 0) 3 0) 11 0) v2 lt2).2.1 1) ((cP S.1).length) (nI k0))) 2 (va_up ((mdx (xi (xi (xi y 0 0) 3 0) 11 0) v2 lt2).2.1 2) ((cP S.1).length) (nI (cN S.1)))) 11 (va_up ((mdx (xi (xi (xi y 0 0) 3 0) 11 0) v2 lt2).2.1 11) S.2.1.length 2)) 12 (va_up ((mdx (xi (xi (xi y 0 0) 3 0) 11 0) v2 lt2).2.1 12) S.2.1.length 0)) 0 (va_up ((mdx (xi (xi (xi y 0 0) 3 0) 11 0) v2 lt2).2.2.1 0) ((cP S.1).length) (some qo_10))) 4 (va_up ((mdx (xi (xi (xi y 0 0) 3 0) 11 0) v2 lt2).2.2.1 4) S.2.1.length none)) ++ ((qo_10, .inr (22, [.int (nI t9.1.length), .int (nI t9.2.2.length), .ref an, .ref aw, .ref af, .ref av, .ref at_])) :: (an, .inl (G.2.2.1 3, 8, .inr (.inl nf9))) :: (aw, .inl (G.2.2.1 0, 8, .inl wf9)) :: (af, .inl (G.2.2.1 0, 10, .inl ff9)) :: (av, .inl (G.2.2.1 0, 10, .inl vf9)) :: (at_, .inl (G.2.2.1 0, 10, .inl tf9)) :: W0)) s _ _ := hW
              refine lv_aload_n hx hb dX4_paper_121 rfl (lv_at hl 1 rfl) ?_
              refine lv_dup hx hb dX4_paper_122 rfl ?_
              refine gM0_papers hF hW q1100 (v := nI (cP S.1).length) (m2) dX4_paper_123 ?_
              refine lv_iconst (v := 1) hx hb dX4_paper_126 (by decide) ?_
              refine lv_iadd hx hb dX4_paper_127 ?_
              refine lv_eqi (show (nI (cP S.1).length) + 1 = nI ((cP S.1).length + 1) from nI_add ((cP S.1).length) 1) ?_
              refine pM0_papers hF hW q1100 dX4_paper_128 (fun H locs hW => ?_)
              have hW : pM G (MWl G ad (xr (xr (xa (xa (xa (xa (xi (xi (mdx (xi (xi (xi y 0 0) 3 0) 11 0) v2 lt2) 5 (nI ((cP S.1).length + 1))) 10 (nI (S.2.1.length + 1))) 1 (va_up ((mdx (xi (xi (xi y 0 0) 3 0) 11 0) v2 lt2).2.1 1) ((cP S.1).length) (nI k0))) 2 (va_up ((mdx (xi (xi (xi y 0 0) 3 0) 11 0) v2 lt2).2.1 2) ((cP S.1).length) (nI (cN S.1)))) 11 (va_up ((mdx (xi (xi (xi y 0 0) 3 0) 11 0) v2 lt2).2.1 11) S.2.1.length 2)) 12 (va_up ((mdx (xi (xi (xi y 0 0) 3 0) 11 0) v2 lt2).2.1 12) S.2.1.length 0)) 0 (va_up ((mdx (xi (xi (xi y 0 0) 3 0) 11 0) v2 lt2).2.2.1 0) ((cP S.1).length) (some qo_10))) 4 (va_up ((mdx (xi (xi (xi y 0 0) 3 0) 11 0) v2 lt2).2.2.1 4) S.2.1.length none)) ++ ((qo_10, .inr (22, [.int (nI t9.1.length), .int (nI t9.2.2.length), .ref an, .ref aw, .ref af, .ref av, .ref at_])) :: (an, .inl (G.2.2.1 3, 8, .inr (.inl nf9))) :: (aw, .inl (G.2.2.1 0, 8, .inl wf9)) :: (af, .inl (G.2.2.1 0, 10, .inl ff9)) :: (av, .inl (G.2.2.1 0, 10, .inl vf9)) :: (at_, .inl (G.2.2.1 0, 10, .inl tf9)) :: W0)) s _ _ := hW
              refine lv_aload_n hx hb dX4_paper_131 rfl (lv_at hl 1 rfl) ?_
              refine lv_aload_n hx hb dX4_paper_132 rfl (lv_at hl 1 rfl) ?_
              refine gM0_papers hF hW q1100 (v := nI ((cP S.1).length + 1)) (rfl) dX4_paper_133 ?_
              refine lv_iconst (v := 1) hx hb dX4_paper_136 (by decide) ?_
              refine lv_isub hx hb dX4_paper_137 ?_
              refine lv_eqi (show (nI ((cP S.1).length + 1)) - 1 = nI (cP S.1).length from nI_m1 _) ?_
              refine cl_i (ru_V (As := [.int (nI (cP S.1).length)]) (rest := []) hF (mX4_done l G ad (xr (xr (xa (xa (xa (xa (xi (xi (mdx (xi (xi (xi y 0 0) 3 0) 11 0) v2 lt2) 5 (nI ((cP S.1).length + 1))) 10 (nI (S.2.1.length + 1))) 1 (va_up ((mdx (xi (xi (xi y 0 0) 3 0) 11 0) v2 lt2).2.1 1) ((cP S.1).length) (nI k0))) 2 (va_up ((mdx (xi (xi (xi y 0 0) 3 0) 11 0) v2 lt2).2.1 2) ((cP S.1).length) (nI (cN S.1)))) 11 (va_up ((mdx (xi (xi (xi y 0 0) 3 0) 11 0) v2 lt2).2.1 11) S.2.1.length 2)) 12 (va_up ((mdx (xi (xi (xi y 0 0) 3 0) 11 0) v2 lt2).2.1 12) S.2.1.length 0)) 0 (va_up ((mdx (xi (xi (xi y 0 0) 3 0) 11 0) v2 lt2).2.2.1 0) ((cP S.1).length) (some qo_10))) 4 (va_up ((mdx (xi (xi (xi y 0 0) 3 0) 11 0) v2 lt2).2.2.1 4) S.2.1.length none)) ((qo_10, .inr (22, [.int (nI t9.1.length), .int (nI t9.2.2.length), .ref an, .ref aw, .ref af, .ref av, .ref at_])) :: (an, .inl (G.2.2.1 3, 8, .inr (.inl nf9))) :: (aw, .inl (G.2.2.1 0, 8, .inl wf9)) :: (af, .inl (G.2.2.1 0, 10, .inl ff9)) :: (av, .inl (G.2.2.1 0, 10, .inl vf9)) :: (at_, .inl (G.2.2.1 0, 10, .inl tf9)) :: W0) (nI (cP S.1).length)) (cwV 1 hts (lw_V q1287 q1289 qs36 q66 q1290) rfl rfl rfl (by decide +kernel) ⟨lb hR1 rfl, lb hR4 rfl⟩) hW (List.mem_of_getElem? (i := 0) rfl) (ci := 20) rfl rfl rfl hl.1 rfl (lv_room (Nat.le_of_ble_eq_true rfl)) dX4_paper_138 ⟨by omega, by omega⟩) hW (fun r_17 u_18 H locs h_19 hW => ?_)
              obtain ⟨rfl, rfl⟩ : r_17 = nI (cP S.1).length ∧ u_18 = _ := h_19
              have hW : pM G (MWl G ad (xr (xr (xa (xa (xa (xa (xi (xi (xi (xi (mdx (xi (xi (xi y 0 0) 3 0) 11 0) v2 lt2) 1 0) 2 (-1)) 5 (nI ((cP S.1).length + 1))) 10 (nI (S.2.1.length + 1))) 1 (va_up ((mdx (xi (xi (xi y 0 0) 3 0) 11 0) v2 lt2).2.1 1) ((cP S.1).length) (nI k0))) 2 (va_up ((mdx (xi (xi (xi y 0 0) 3 0) 11 0) v2 lt2).2.1 2) ((cP S.1).length) (nI (cN S.1)))) 11 (va_up ((mdx (xi (xi (xi y 0 0) 3 0) 11 0) v2 lt2).2.1 11) S.2.1.length 2)) 12 (va_up ((mdx (xi (xi (xi y 0 0) 3 0) 11 0) v2 lt2).2.1 12) S.2.1.length 0)) 0 (va_up ((mdx (xi (xi (xi y 0 0) 3 0) 11 0) v2 lt2).2.2.1 0) ((cP S.1).length) (some qo_10))) 4 (va_up ((mdx (xi (xi (xi y 0 0) 3 0) 11 0) v2 lt2).2.2.1 4) S.2.1.length none)) ++ ((qo_10, .inr (22, [.int (nI t9.1.length), .int (nI t9.2.2.length), .ref an, .ref aw, .ref af, .ref av, .ref at_])) :: (an, .inl (G.2.2.1 3, 8, .inr (.inl nf9))) :: (aw, .inl (G.2.2.1 0, 8, .inl wf9)) :: (af, .inl (G.2.2.1 0, 10, .inl ff9)) :: (av, .inl (G.2.2.1 0, 10, .inl vf9)) :: (at_, .inl (G.2.2.1 0, 10, .inl tf9)) :: W0)) s _ _ := hW
              exact re_i hF hRt hLk hQ (by omega) (by omega) dX4_paper_141 ((xr (xr (xa (xa (xa (xa (xi (xi (xi (xi (mdx (xi (xi (xi y 0 0) 3 0) 11 0) v2 lt2) 1 0) 2 (-1)) 5 (nI ((cP S.1).length + 1))) 10 (nI (S.2.1.length + 1))) 1 (va_up ((mdx (xi (xi (xi y 0 0) 3 0) 11 0) v2 lt2).2.1 1) ((cP S.1).length) (nI k0))) 2 (va_up ((mdx (xi (xi (xi y 0 0) 3 0) 11 0) v2 lt2).2.1 2) ((cP S.1).length) (nI (cN S.1)))) 11 (va_up ((mdx (xi (xi (xi y 0 0) 3 0) 11 0) v2 lt2).2.1 11) S.2.1.length 2)) 12 (va_up ((mdx (xi (xi (xi y 0 0) 3 0) 11 0) v2 lt2).2.1 12) S.2.1.length 0)) 0 (va_up ((mdx (xi (xi (xi y 0 0) 3 0) 11 0) v2 lt2).2.2.1 0) ((cP S.1).length) (some qo_10))) 4 (va_up ((mdx (xi (xi (xi y 0 0) 3 0) 11 0) v2 lt2).2.2.1 4) S.2.1.length none)), [(qo_10, .inr (22, [.int (nI t9.1.length), .int (nI t9.2.2.length), .ref an, .ref aw, .ref af, .ref av, .ref at_])), (an, .inl (G.2.2.1 3, 8, .inr (.inl nf9))), (aw, .inl (G.2.2.1 0, 8, .inl wf9)), (af, .inl (G.2.2.1 0, 10, .inl ff9)), (av, .inl (G.2.2.1 0, 10, .inl vf9)), (at_, .inl (G.2.2.1 0, 10, .inl tf9))]) (by unfold paperS; rw [hi0, hi1]; dsimp only; rw [hrd]; dsimp only; rw [if_neg hfl]; exact ⟨rfl, ⟨m0, m1, len_add (cP S.1) _, PapR.add (p := (t9, k0, cN S.1)) (m3.mono hml) hmt, m4, m5.mono hml, m6, m7.mono hml, m8, m9.mono hml, m10, rfl, ActM.add (a := (2, 0, 0, nT)) (m12.mono hml) (fun z => nomatch z), rfl, m14, rfl, rfl, rfl, m18, m19, m20, m21, m22⟩⟩) (pM.swp [(qo_10, .inr (22, [.int (nI t9.1.length), .int (nI t9.2.2.length), .ref an, .ref aw, .ref af, .ref av, .ref at_])), (an, .inl (G.2.2.1 3, 8, .inr (.inl nf9))), (aw, .inl (G.2.2.1 0, 8, .inl wf9)), (af, .inl (G.2.2.1 0, 10, .inl ff9)), (av, .inl (G.2.2.1 0, 10, .inl vf9)), (at_, .inl (G.2.2.1 0, 10, .inl tf9))] hW)
            · have hfl : (cP S.1).length = 20 := eq_eq (b := 20) c_72
              refine lv_aload_n hx hb dX4_paper_75 rfl (lv_at hl 1 rfl) ?_
              refine lv_iconst (v := 3) hx hb dX4_paper_76 (by decide) ?_
              refine cl_i (ru_V (As := [.int 3]) (rest := []) hF (mX4_refused l G ad (mdx (xi (xi (xi y 0 0) 3 0) 11 0) v2 lt2) ((qo_10, .inr (22, [.int (nI t9.1.length), .int (nI t9.2.2.length), .ref an, .ref aw, .ref af, .ref av, .ref at_])) :: (an, .inl (G.2.2.1 3, 8, .inr (.inl nf9))) :: (aw, .inl (G.2.2.1 0, 8, .inl wf9)) :: (af, .inl (G.2.2.1 0, 10, .inl ff9)) :: (av, .inl (G.2.2.1 0, 10, .inl vf9)) :: (at_, .inl (G.2.2.1 0, 10, .inl tf9)) :: W0) 3) (cwV 1 hts (lw_V q1255 q1257 qs29 q66 q1258) rfl rfl rfl (by decide +kernel) ⟨lb hR1 rfl, lb hR4 rfl⟩) hW (List.mem_of_getElem? (i := 0) rfl) (ci := 20) rfl rfl rfl hl.1 rfl (lv_room (Nat.le_of_ble_eq_true rfl)) dX4_paper_77 ⟨by omega, by omega⟩) hW (fun r_20 u_21 H locs h_22 hW => ?_)
              obtain ⟨rfl, rfl⟩ : r_20 = (-1) ∧ u_21 = _ := h_22
              have hW : pM G (MWl G ad (xi (xi (mdx (xi (xi (xi y 0 0) 3 0) 11 0) v2 lt2) 1 3) 2 (-1)) ++ ((qo_10, .inr (22, [.int (nI t9.1.length), .int (nI t9.2.2.length), .ref an, .ref aw, .ref af, .ref av, .ref at_])) :: (an, .inl (G.2.2.1 3, 8, .inr (.inl nf9))) :: (aw, .inl (G.2.2.1 0, 8, .inl wf9)) :: (af, .inl (G.2.2.1 0, 10, .inl ff9)) :: (av, .inl (G.2.2.1 0, 10, .inl vf9)) :: (at_, .inl (G.2.2.1 0, 10, .inl tf9)) :: W0)) s _ _ := hW
              exact re_i hF hRt hLk hQ (by omega) (by omega) dX4_paper_80 ((xi (xi (mdx (xi (xi (xi y 0 0) 3 0) 11 0) v2 lt2) 1 3) 2 (-1)), []) (by unfold paperS; rw [hi0, hi1]; dsimp only; rw [hrd]; dsimp only; rw [if_pos hfl]; exact ⟨rfl, MR.nil ⟨m0, m1, m2, m3, m4, m5, m6, m7, m8, m9, m10, m11, m12, rfl, m14, rfl, rfl, rfl, m18, m19, m20, m21, m22⟩⟩) (pM.nil (pM.drop6 hW))
        · exact absurd ((by rw [show (xi y 0 0).1 11 = nI S.2.2.2.1 from m13]; exact ixn_in hi1 (by omega) : 0 ≤ (nI k1) ∧ (nI k1) ≤ (xi y 0 0).1 11)) h_
      · exact absurd (ixn_in hi0 (by omega)) h_

set_option maxRecDepth 100000 in
set_option maxHeartbeats 8000000 in
theorem mX4_thing (l : Launch) (G : pG) (ad : Nat → Nat) (y : XV) (W0 T : va_W) (hT : ∀ q ∈ T, q ∈ W0) (S : AS) (n9 : Nat) (hS : SOk n9 S) (hn9 : n9 ≤ 64) (hMR : MR G T y S) (a0 : Int32) : vx_Met l yX4_thing (wsW_ yX4_thing cX4_thing 4 (some .int) [((32 : Nat), (42 : Nat), (45 : Nat), (75 : Nat))]) ({ frames := 4, cells := 6, slots := 60, locals := 97 } : Room) (va_Pc [.ref (ad 0), .int a0] (fun U => pW G (MWl G ad y ++ W0) U)) (va_Qi (fun r (u : XV × va_W) => r = (thingS S a0).2 ∧ MR G (T ++ u.2) u.1 (thingS S a0).1) (fun (u : XV × va_W) t9 => pW G (MWl G ad u.1 ++ (W0 ++ u.2)) t9) (pA G)) (fun _ _ _ _ => False) 6 60 (pA G) := by
  refine mh (by decide) (Nat.le_of_ble_eq_true rfl) ?_
  intro pp ee R s m below meth c ls Q hF hRt hLk htab hR hQ hW hl
  have hx := hF.1
  have hb := hF.2.1
  have hts := hF.2.2.2.2
  have hR1 : R.frames = 4 := by rw [hR]
  have hR2 : R.cells = 6 := by rw [hR]
  have hR3 : R.slots = 60 := by rw [hR]
  have hR4 : R.locals = 97 := by rw [hR]
  have hl : lv_has ls 4 [(0, .ref (ad 0)), (1, .int a0)] := hl
  have hW : pM G (MWl G ad y ++ W0) s s.heap [] := hW
  obtain ⟨m0, m1, m2, m3, m4, m5, m6, m7, m8, m9, m10, m11, m12, m13, m14, m15, m16, m17, m18, m19, m20, m21, m22⟩ := hMR
  have hI := hS.inv
  have b0 := hI.1.1
  have b1 := hI.2.1.1
  have b2 := hI.2.2.1.1
  have b3 := hI.2.2.2.1.1
  have b4 := hI.2.2.2.2.1.1
  have b5 := hI.2.2.2.2.2
  have b6 := hS.2.1
  have b7 := hS.2.2.1
  have b8 := hS.2.2.2.1
  have b9 := hS.2.2.2.2.1
  cases hi1 : ixn a0 S.2.2.2.1 with
  | none =>
    refine lv_aload_n hx hb dX4_thing_0 rfl (lv_at hl 0 rfl) ?_
    refine lv_iconst (v := 0) hx hb dX4_thing_1 (by decide) ?_
    refine pM0_thrown hF hW q1095 dX4_thing_2 (fun H locs hW => ?_)
    have hW : pM G (MWl G ad (xi y 0 0) ++ W0) s _ _ := hW
    refine lv_aload_n hx hb dX4_thing_5 rfl (lv_at hl 0 rfl) ?_
    refine lv_iload_n hx hb dX4_thing_6 rfl (lv_at hl 1 rfl) ?_
    refine cl_i (ru_V (As := [.int a0]) (rest := []) hF (mX4_isTaped l G ad (xi y 0 0) W0 a0) (cwV 1 hts (lw_V q1259 q1261 qs30 q66 q1262) rfl rfl rfl (by decide +kernel) ⟨lb hR1 rfl, lb hR4 rfl⟩) hW (List.mem_of_getElem? (i := 0) rfl) (ci := 20) rfl rfl rfl hl.1 rfl (lv_room (Nat.le_of_ble_eq_true rfl)) dX4_thing_7 ⟨by omega, by omega⟩) hW (fun r_ u_ H locs h_ hW => ?_)
    have hW : pM G (MWl G ad (xi y 0 0) ++ W0) s _ _ := hW
    rcases h_ with ⟨rfl, h_⟩ | ⟨rfl, h_⟩
    · exact absurd h_ (fun z => ixn_no hi1 (by omega) (by rw [show (xi y 0 0).1 11 = nI S.2.2.2.1 from m13] at z; exact z))
    · refine lv_if_ne (tgt := 19) hx hb dX4_thing_10 (by decide) (fun c_10 => absurd c_10 (by decide)) (fun c_10 => ?_)
      refine lv_aload_n hx hb dX4_thing_13 rfl (lv_at hl 0 rfl) ?_
      refine lv_iconst (v := 2) hx hb dX4_thing_14 (by decide) ?_
      refine cl_i (ru_V (As := [.int 2]) (rest := []) hF (mX4_refused l G ad (xi y 0 0) W0 2) (cwV 1 hts (lw_V q1255 q1257 qs29 q66 q1258) rfl rfl rfl (by decide +kernel) ⟨lb hR1 rfl, lb hR4 rfl⟩) hW (List.mem_of_getElem? (i := 0) rfl) (ci := 20) rfl rfl rfl hl.1 rfl (lv_room (Nat.le_of_ble_eq_true rfl)) dX4_thing_15 ⟨by omega, by omega⟩) hW (fun r_1 u_2 H locs h_3 hW => ?_)
      obtain ⟨rfl, rfl⟩ : r_1 = (-1) ∧ u_2 = _ := h_3
      have hW : pM G (MWl G ad (xi (xi (xi y 0 0) 1 2) 2 (-1)) ++ W0) s _ _ := hW
      exact re_i hF hRt hLk hQ (by omega) (by omega) dX4_thing_18 ((xi (xi (xi y 0 0) 1 2) 2 (-1)), []) (by unfold thingS; rw [hi1]; exact ⟨rfl, MR.nil ⟨m0, m1, m2, m3, m4, m5, m6, m7, m8, m9, m10, m11, m12, m13, m14, rfl, m16, rfl, m18, m19, m20, m21, m22⟩⟩) (pM.nil (hW))
  | some k1 =>
    obtain ⟨hk1, rfl⟩ := ixn_some hi1 (by omega)
    refine lv_aload_n hx hb dX4_thing_0 rfl (lv_at hl 0 rfl) ?_
    refine lv_iconst (v := 0) hx hb dX4_thing_1 (by decide) ?_
    refine pM0_thrown hF hW q1095 dX4_thing_2 (fun H locs hW => ?_)
    have hW : pM G (MWl G ad (xi y 0 0) ++ W0) s _ _ := hW
    refine lv_aload_n hx hb dX4_thing_5 rfl (lv_at hl 0 rfl) ?_
    refine lv_iload_n hx hb dX4_thing_6 rfl (lv_at hl 1 rfl) ?_
    refine cl_i (ru_V (As := [.int (nI k1)]) (rest := []) hF (mX4_isTaped l G ad (xi y 0 0) W0 (nI k1)) (cwV 1 hts (lw_V q1259 q1261 qs30 q66 q1262) rfl rfl rfl (by decide +kernel) ⟨lb hR1 rfl, lb hR4 rfl⟩) hW (List.mem_of_getElem? (i := 0) rfl) (ci := 20) rfl rfl rfl hl.1 rfl (lv_room (Nat.le_of_ble_eq_true rfl)) dX4_thing_7 ⟨by omega, by omega⟩) hW (fun r_ u_ H locs h_ hW => ?_)
    have hW : pM G (MWl G ad (xi y 0 0) ++ W0) s _ _ := hW
    rcases h_ with ⟨rfl, h_⟩ | ⟨rfl, h_⟩
    · refine lv_if_ne (tgt := 19) hx hb dX4_thing_10 (by decide) (fun c_10 => ?_) (fun c_10 => absurd c_10 (by decide))
      refine lv_aload_n hx hb dX4_thing_19 rfl (lv_at hl 0 rfl) ?_
      refine lv_iconst (v := 0) hx hb dX4_thing_20 (by decide) ?_
      refine pM0_fault hF hW q1098 dX4_thing_21 (fun H locs hW => ?_)
      have hW : pM G (MWl G ad (xi (xi y 0 0) 3 0) ++ W0) s _ _ := hW
      refine nw (ci := 22) hF hW rfl in_X6 tyX6 tyX6_ok q1037 q1061 q68 (fs := [.int 0, .int 0, .null, .null, .null, .null, .null]) (fun j hj => by match j, hj with | 0, _ => rfl | 1, _ => rfl | 2, _ => rfl | 3, _ => rfl | 4, _ => rfl | 5, _ => rfl | 6, _ => rfl) (by omega) (by omega) dX4_thing_24 (fun qo_4 H hW => ?_)
      have hW := hW.asc
      have hW : pM G (MWl G ad (xi (xi y 0 0) 3 0) ++ (W0 ++ [(qo_4, .inr (22, [.int 0, .int 0, .null, .null, .null, .null, .null]))])) s _ _ := hW
      refine lv_dup hx hb dX4_thing_27 rfl ?_
      have hW := pM.csa (A := MWl G ad (xi (xi y 0 0) 3 0)) (B := W0) hW
      refine cl_v (ru_IN (As := []) (rest := [.ref qo_4]) hF (mX6_init l G (MWl G ad (xi (xi y 0 0) 3 0) ++ W0) qo_4) ⟨va_cnB 0 hts (lw_meth q1064) rfl rfl rfl (hW.2.2.2.2.2.1 _ (List.mem_of_getElem? (i := 26) rfl)) (hts _ q68) (by decide +kernel) ⟨lb hR1 rfl, lb hR4 rfl⟩, rfl, hts _ q1063⟩ hW rfl rfl hl.1 rfl (lv_room (Nat.le_of_ble_eq_true rfl)) dX4_thing_28 ⟨by omega, by omega⟩) hW (fun u_ H locs _ hW => ?_)
      obtain ⟨an, aw, af, av, at_⟩ := u_
      have hW := pM.rot (A := MWl G ad (xi (xi y 0 0) 3 0)) (B := W0) hW
      have hW : pM G (MWl G ad (xi (xi y 0 0) 3 0) ++ ((qo_4, .inr (22, [.int (nI nT.1.length), .int (nI nT.2.2.length), .ref an, .ref aw, .ref af, .ref av, .ref at_])) :: (an, .inl (G.2.2.1 3, 8, .inr (.inl (fun _ => 0)))) :: (aw, .inl (G.2.2.1 0, 8, .inl (fun _ => 0))) :: (af, .inl (G.2.2.1 0, 10, .inl (fun _ => 0))) :: (av, .inl (G.2.2.1 0, 10, .inl (fun _ => 0))) :: (at_, .inl (G.2.2.1 0, 10, .inl (fun _ => 0))) :: W0)) s _ _ := hW
      refine lv_astore_n (lv' := [(2, .ref qo_4), (0, .ref (ad 0)), (1, .int (nI k1))]) hx hb dX4_thing_31 rfl hl (by decide) rfl (fun ls hl => ?_)
      refine lv_aload_n hx hb dX4_thing_32 rfl (lv_at hl 1 rfl) ?_
      refine lv_aload_n hx hb dX4_thing_33 rfl (lv_at hl 0 rfl) ?_
      refine lv_iload_n hx hb dX4_thing_34 rfl (lv_at hl 2 rfl) ?_
      refine lv_bipush (v := 8) hx hb dX4_thing_35 (by decide) ?_
      refine lv_bipush (v := 10) hx hb dX4_thing_37 (by decide) ?_
      have hn : k1 ≤ 300 := by omega
      have hW : pM G (MWl G ad (mdx (xi (xi y 0 0) 3 0) (xi (xi y 0 0) 3 0).1 ((xi (xi y 0 0) 3 0).2.2.2.2.1 0)) ++ ((qo_4, .inr (22, [.int (nI nT.1.length), .int (nI nT.2.2.length), .ref an, .ref aw, .ref af, .ref av, .ref at_])) :: (an, .inl (G.2.2.1 3, 8, .inr (.inl (fun _ => 0)))) :: (aw, .inl (G.2.2.1 0, 8, .inl (fun _ => 0))) :: (af, .inl (G.2.2.1 0, 10, .inl (fun _ => 0))) :: (av, .inl (G.2.2.1 0, 10, .inl (fun _ => 0))) :: (at_, .inl (G.2.2.1 0, 10, .inl (fun _ => 0))) :: W0)) s _ _ := hW
      refine cx_v (rx_V (As := [.ref qo_4, .int (nI k1), .int 8, .int 10]) (rest := []) hF (mX4_reads l G ad (xi (xi y 0 0) 3 0) W0 (xi (xi y 0 0) 3 0).1 ((xi (xi y 0 0) 3 0).2.2.2.2.1 0) k1 hn (cW S.1) m1.1 b0 m0 hI.1.2.2.1 qo_4 an aw af av at_ (fun _ => 0) (fun _ => 0) (fun _ => 0) (fun _ => 0) (fun _ => 0) nT MHc_n 8 10 (nT_ok) (by omega) (by omega)) (cwV 4 hts (lw_V q1314 q1316 qs39 q66 q1317) rfl rfl rfl (by decide +kernel) ⟨lb hR1 rfl, lb hR4 rfl⟩) hW (List.mem_of_getElem? (i := 0) rfl) (ci := 20) rfl rfl rfl hl.1 rfl (lv_room (Nat.le_of_ble_eq_true rfl)) dX4_thing_39 ⟨by omega, by omega⟩) hW (fun u_6 H locs h_7 hW => ?_) (fun u_6 H locs h_7 hW => ?_)
      · obtain ⟨e1, e2, v2, lt2⟩ := u_6
        have hrd : readS S k1 8 10 nT = .inl (e1, e2) := by unfold readS; rw [← m14]; exact h_7
        have hW : pM G (MWl G ad (mdx (xi (xi (xi (xi (xi y 0 0) 3 0) 11 0) 21 (nI e1)) 22 (nI e2)) v2 lt2) ++ W0) s _ _ := hW
        refine ca hF htab rfl rfl (by decide) q1039 (List.mem_of_getElem? (i := 39) rfl) hW (List.mem_of_getElem? (i := 20) rfl) (ci := 21) rfl ?_
        refine lv_astore_n (lv' := [(3, .ref (ad 20)), (2, .ref qo_4), (0, .ref (ad 0)), (1, .int (nI k1))]) hx hb dX4_thing_45 rfl hl (by decide) rfl (fun ls hl => ?_)
        refine lv_aload_n hx hb dX4_thing_46 rfl (lv_at hl 2 rfl) ?_
        refine lv_aload_n hx hb dX4_thing_47 rfl (lv_at hl 0 rfl) ?_
        refine cl_i (ru_V (As := [.ref (ad 20)]) (rest := []) hF (mX4_wrong l G ad (mdx (xi (xi (xi (xi (xi y 0 0) 3 0) 11 0) 21 (nI e1)) 22 (nI e2)) v2 lt2) W0) (cwV 1 hts (lw_V q1334 q1336 qs43 q66 q1337) rfl rfl rfl (by decide +kernel) ⟨lb hR1 rfl, lb hR4 rfl⟩) hW (List.mem_of_getElem? (i := 0) rfl) (ci := 20) rfl rfl rfl hl.1 rfl (lv_room (Nat.le_of_ble_eq_true rfl)) dX4_thing_48 ⟨by omega, by omega⟩) hW (fun r_ u_ H locs h_ hW => ?_)
        obtain ⟨rfl, rfl⟩ : r_ = -1 ∧ u_ = _ := h_
        have hW : pM G (MWl G ad (xi (xi (xi (mdx (xi (xi (xi (xi (xi y 0 0) 3 0) 11 0) 21 (nI e1)) 22 (nI e2)) v2 lt2) 1 4) 2 (nI e2)) 3 (nI e1)) ++ W0) s _ _ := hW
        exact re_i hF hRt hLk hQ (by omega) (by omega) dX4_thing_51 ((xi (xi (xi (mdx (xi (xi (xi (xi (xi y 0 0) 3 0) 11 0) 21 (nI e1)) 22 (nI e2)) v2 lt2) 1 4) 2 (nI e2)) 3 (nI e1)), []) (by unfold thingS; rw [hi1]; dsimp only; rw [hrd]; exact ⟨rfl, MR.nil ⟨m0, m1, m2, m3, m4, m5, m6, m7, m8, m9, m10, m11, m12, rfl, m14, rfl, rfl, rfl, m18, m19, m20, m21, m22⟩⟩) (pM.nil (hW))
      · obtain ⟨t9, nf9, wf9, ff9, vf9, tf9, v2, lt2⟩ := u_6
        obtain ⟨hrd, hok9, ht9⟩ := h_7
        have hrd : readS S k1 8 10 nT = .inr t9 := by unfold readS; rw [← m14]; exact hrd
        have hok9 : TxOk (cW S.1).length 8 10 t9 := hok9
        have ht9 : MHc t9 nf9 wf9 ff9 vf9 tf9 := ht9
        have hW : pM G (MWl G ad (mdx (xi (xi (xi y 0 0) 3 0) 11 0) v2 lt2) ++ ((qo_4, .inr (22, [.int (nI t9.1.length), .int (nI t9.2.2.length), .ref an, .ref aw, .ref af, .ref av, .ref at_])) :: (an, .inl (G.2.2.1 3, 8, .inr (.inl nf9))) :: (aw, .inl (G.2.2.1 0, 8, .inl wf9)) :: (af, .inl (G.2.2.1 0, 10, .inl ff9)) :: (av, .inl (G.2.2.1 0, 10, .inl vf9)) :: (at_, .inl (G.2.2.1 0, 10, .inl tf9)) :: W0)) s _ _ := hW
        refine lv_goto (tgt := 52) hx hb dX4_thing_42 (by decide) ?_
        refine lv_aload_n hx hb dX4_thing_52 rfl (lv_at hl 1 rfl) ?_
        refine gM0_things hF hW q1103 (v := nI (cT S.1).length) (m6) dX4_thing_53 ?_
        refine lv_bipush (v := 12) hx hb dX4_thing_56 (by decide) ?_
        refine lv_icmp_ne (tgt := 67) hx hb dX4_thing_58 (by decide) (fun c_58 => ?_) (fun c_58 => ?_)
        · have hfl : ¬ (cT S.1).length = 12 := fun z => c_58 (by rw [z]; rfl)
          have hml : ∀ z ∈ T, z ∈ T ++ [(qo_4, .inr (22, [.int (nI t9.1.length), .int (nI t9.2.2.length), .ref an, .ref aw, .ref af, .ref av, .ref at_])), (an, .inl (G.2.2.1 3, 8, .inr (.inl nf9))), (aw, .inl (G.2.2.1 0, 8, .inl wf9)), (af, .inl (G.2.2.1 0, 10, .inl ff9)), (av, .inl (G.2.2.1 0, 10, .inl vf9)), (at_, .inl (G.2.2.1 0, 10, .inl tf9))] := fun z h => List.mem_append_left _ h
          have hmt : MT G (T ++ [(qo_4, .inr (22, [.int (nI t9.1.length), .int (nI t9.2.2.length), .ref an, .ref aw, .ref af, .ref av, .ref at_])), (an, .inl (G.2.2.1 3, 8, .inr (.inl nf9))), (aw, .inl (G.2.2.1 0, 8, .inl wf9)), (af, .inl (G.2.2.1 0, 10, .inl ff9)), (av, .inl (G.2.2.1 0, 10, .inl vf9)), (at_, .inl (G.2.2.1 0, 10, .inl tf9))]) qo_4 t9 := ⟨an, aw, af, av, at_, nf9, wf9, ff9, vf9, tf9, List.mem_append_right _ (List.mem_of_getElem? (i := 0) rfl), List.mem_append_right _ (List.mem_of_getElem? (i := 1) rfl), List.mem_append_right _ (List.mem_of_getElem? (i := 2) rfl), List.mem_append_right _ (List.mem_of_getElem? (i := 3) rfl), List.mem_append_right _ (List.mem_of_getElem? (i := 4) rfl), List.mem_append_right _ (List.mem_of_getElem? (i := 5) rfl), ht9⟩
          refine lv_aload_n hx hb dX4_thing_67 rfl (lv_at hl 1 rfl) ?_
          refine gM0_thing hF hW q1109 dX4_thing_68 ?_
          refine lv_aload_n hx hb dX4_thing_71 rfl (lv_at hl 1 rfl) ?_
          refine gM0_things hF hW q1103 (v := nI (cT S.1).length) (m6) dX4_thing_72 ?_
          refine lv_aload_n hx hb dX4_thing_75 rfl (lv_at hl 0 rfl) ?_
          refine sM5 hF hW (ms_r (List.mem_of_getElem? (i := 0) rfl)) (ci := 22) rfl rfl (j := (cT S.1).length) (rfl) (by omega) dX4_thing_76 (fun H locs hW => ?_)
          have hW : pM G (MWl G ad (xr (mdx (xi (xi (xi y 0 0) 3 0) 11 0) v2 lt2) 2 (va_up ((mdx (xi (xi (xi y 0 0) 3 0) 11 0) v2 lt2).2.2.1 2) ((cT S.1).length) (some qo_4))) ++ ((qo_4, .inr (22, [.int (nI t9.1.length), .int (nI t9.2.2.length), .ref an, .ref aw, .ref af, .ref av, .ref at_])) :: (an, .inl (G.2.2.1 3, 8, .inr (.inl nf9))) :: (aw, .inl (G.2.2.1 0, 8, .inl wf9)) :: (af, .inl (G.2.2.1 0, 10, .inl ff9)) :: (av, .inl (G.2.2.1 0, 10, .inl vf9)) :: (at_, .inl (G.2.2.1 0, 10, .inl tf9)) :: W0)) s _ _ := hW
          refine lv_aload_n hx hb dX4_thing_77 rfl (lv_at hl 1 rfl) ?_
          refine gM0_thingKnown hF hW q1113 dX4_thing_78 ?_
          refine lv_aload_n hx hb dX4_thing_81 rfl (lv_at hl 1 rfl) ?_
          refine gM0_things hF hW q1103 (v := nI (cT S.1).length) (m6) dX4_thing_82 ?_
          refine lv_aload_n hx hb dX4_thing_85 rfl (lv_at hl 1 rfl) ?_
          refine gM0_now hF hW q1104 (v := nI (cN S.1)) (m10) dX4_thing_86 ?_
          refine sM9 hF hW (j := (cT S.1).length) (rfl) (by omega) dX4_thing_89 (fun H locs hW => ?_)
          have hW : pM G (MWl G ad (xr (xa (mdx (xi (xi (xi y 0 0) 3 0) 11 0) v2 lt2) 3 (va_up ((mdx (xi (xi (xi y 0 0) 3 0) 11 0) v2 lt2).2.1 3) ((cT S.1).length) (nI (cN S.1)))) 2 (va_up ((mdx (xi (xi (xi y 0 0) 3 0) 11 0) v2 lt2).2.2.1 2) ((cT S.1).length) (some qo_4))) ++ ((qo_4, .inr (22, [.int (nI t9.1.length), .int (nI t9.2.2.length), .ref an, .ref aw, .ref af, .ref av, .ref at_])) :: (an, .inl (G.2.2.1 3, 8, .inr (.inl nf9))) :: (aw, .inl (G.2.2.1 0, 8, .inl wf9)) :: (af, .inl (G.2.2.1 0, 10, .inl ff9)) :: (av, .inl (G.2.2.1 0, 10, .inl vf9)) :: (at_, .inl (G.2.2.1 0, 10, .inl tf9)) :: W0)) s _ _ := hW
          refine lv_aload_n hx hb dX4_thing_90 rfl (lv_at hl 1 rfl) ?_
          refine lv_iconst (v := 3) hx hb dX4_thing_91 (by decide) ?_
          refine lv_iconst (v := 0) hx hb dX4_thing_92 (by decide) ?_
          refine lv_null hx hb dX4_thing_93 ?_
          refine cl_v (ru_V (As := [.int 3, .int 0, .null]) (rest := []) hF (mX4_act_n l G ad (xr (xa (mdx (xi (xi (xi y 0 0) 3 0) 11 0) v2 lt2) 3 (va_up ((mdx (xi (xi (xi y 0 0) 3 0) 11 0) v2 lt2).2.1 3) ((cT S.1).length) (nI (cN S.1)))) 2 (va_up ((mdx (xi (xi (xi y 0 0) 3 0) 11 0) v2 lt2).2.2.1 2) ((cT S.1).length) (some qo_4))) ((qo_4, .inr (22, [.int (nI t9.1.length), .int (nI t9.2.2.length), .ref an, .ref aw, .ref af, .ref av, .ref at_])) :: (an, .inl (G.2.2.1 3, 8, .inr (.inl nf9))) :: (aw, .inl (G.2.2.1 0, 8, .inl wf9)) :: (af, .inl (G.2.2.1 0, 10, .inl ff9)) :: (av, .inl (G.2.2.1 0, 10, .inl vf9)) :: (at_, .inl (G.2.2.1 0, 10, .inl tf9)) :: W0) S.2.1.length (by omega) (m11) 3 0) (cwV 3 hts (lw_V q1283 q1285 qs35 q66 q1286) rfl rfl rfl (by decide +kernel) ⟨lb hR1 rfl, lb hR4 rfl⟩) hW (List.mem_of_getElem? (i := 0) rfl) (ci := 20) rfl rfl rfl hl.1 rfl (lv_room (Nat.le_of_ble_eq_true rfl)) dX4_thing_94 ⟨by omega, by omega⟩) hW (fun u_9 H locs h_10 hW => ?_)
          obtain rfl : u_9 = _ := h_10
          have hW : pM G (MWl G ad (xr (xr (xa (xa (xa (xi (mdx (xi (xi (xi y 0 0) 3 0) 11 0) v2 lt2) 10 (nI (S.2.1.length + 1))) 3 (va_up ((mdx (xi (xi (xi y 0 0) 3 0) 11 0) v2 lt2).2.1 3) ((cT S.1).length) (nI (cN S.1)))) 11 (va_up ((mdx (xi (xi (xi y 0 0) 3 0) 11 0) v2 lt2).2.1 11) S.2.1.length 3)) 12 (va_up ((mdx (xi (xi (xi y 0 0) 3 0) 11 0) v2 lt2).2.1 12) S.2.1.length 0)) 2 (va_up ((mdx (xi (xi (xi y 0 0) 3 0) 11 0) v2 lt2).2.2.1 2) ((cT S.1).length) (some qo_4))) 4 (va_up ((mdx (xi (xi (xi y 0 0) 3 0) 11 0) v2 lt2).2.2.1 4) S.2.1.length none)) ++ ((qo_4, .inr (22, [.int (nI t9.1.length), .int (nI t9.2.2.length), .ref an, .ref aw, .ref af, .ref av, .ref at_])) :: (an, .inl (G.2.2.1 3, 8, .inr (.inl nf9))) :: (aw, .inl (G.2.2.1 0, 8, .inl wf9)) :: (af, .inl (G.2.2.1 0, 10, .inl ff9)) :: (av, .inl (G.2.2.1 0, 10, .inl vf9)) :: (at_, .inl (G.2.2.1 0, 10, .inl tf9)) :: W0)) s _ _ := hW
          refine lv_aload_n hx hb dX4_thing_97 rfl (lv_at hl 1 rfl) ?_
          refine lv_dup hx hb dX4_thing_98 rfl ?_
          refine gM0_things hF hW q1103 (v := nI (cT S.1).length) (m6) dX4_thing_99 ?_
          refine lv_iconst (v := 1) hx hb dX4_thing_102 (by decide) ?_
          refine lv_iadd hx hb dX4_thing_103 ?_
          refine lv_eqi (show (nI (cT S.1).length) + 1 = nI ((cT S.1).length + 1) from nI_add ((cT S.1).length) 1) ?_
          refine pM0_things hF hW q1103 dX4_thing_104 (fun H locs hW => ?_)
          have hW : pM G (MWl G ad (xr (xr (xa (xa (xa (xi (xi (mdx (xi (xi (xi y 0 0) 3 0) 11 0) v2 lt2) 8 (nI ((cT S.1).length + 1))) 10 (nI (S.2.1.length + 1))) 3 (va_up ((mdx (xi (xi (xi y 0 0) 3 0) 11 0) v2 lt2).2.1 3) ((cT S.1).length) (nI (cN S.1)))) 11 (va_up ((mdx (xi (xi (xi y 0 0) 3 0) 11 0) v2 lt2).2.1 11) S.2.1.length 3)) 12 (va_up ((mdx (xi (xi (xi y 0 0) 3 0) 11 0) v2 lt2).2.1 12) S.2.1.length 0)) 2 (va_up ((mdx (xi (xi (xi y 0 0) 3 0) 11 0) v2 lt2).2.2.1 2) ((cT S.1).length) (some qo_4))) 4 (va_up ((mdx (xi (xi (xi y 0 0) 3 0) 11 0) v2 lt2).2.2.1 4) S.2.1.length none)) ++ ((qo_4, .inr (22, [.int (nI t9.1.length), .int (nI t9.2.2.length), .ref an, .ref aw, .ref af, .ref av, .ref at_])) :: (an, .inl (G.2.2.1 3, 8, .inr (.inl nf9))) :: (aw, .inl (G.2.2.1 0, 8, .inl wf9)) :: (af, .inl (G.2.2.1 0, 10, .inl ff9)) :: (av, .inl (G.2.2.1 0, 10, .inl vf9)) :: (at_, .inl (G.2.2.1 0, 10, .inl tf9)) :: W0)) s _ _ := hW
          refine lv_aload_n hx hb dX4_thing_107 rfl (lv_at hl 1 rfl) ?_
          refine lv_aload_n hx hb dX4_thing_108 rfl (lv_at hl 1 rfl) ?_
          refine gM0_things hF hW q1103 (v := nI ((cT S.1).length + 1)) (rfl) dX4_thing_109 ?_
          refine lv_iconst (v := 1) hx hb dX4_thing_112 (by decide) ?_
          refine lv_isub hx hb dX4_thing_113 ?_
          refine lv_eqi (show (nI ((cT S.1).length + 1)) - 1 = nI (cT S.1).length from nI_m1 _) ?_
          refine cl_i (ru_V (As := [.int (nI (cT S.1).length)]) (rest := []) hF (mX4_done l G ad (xr (xr (xa (xa (xa (xi (xi (mdx (xi (xi (xi y 0 0) 3 0) 11 0) v2 lt2) 8 (nI ((cT S.1).length + 1))) 10 (nI (S.2.1.length + 1))) 3 (va_up ((mdx (xi (xi (xi y 0 0) 3 0) 11 0) v2 lt2).2.1 3) ((cT S.1).length) (nI (cN S.1)))) 11 (va_up ((mdx (xi (xi (xi y 0 0) 3 0) 11 0) v2 lt2).2.1 11) S.2.1.length 3)) 12 (va_up ((mdx (xi (xi (xi y 0 0) 3 0) 11 0) v2 lt2).2.1 12) S.2.1.length 0)) 2 (va_up ((mdx (xi (xi (xi y 0 0) 3 0) 11 0) v2 lt2).2.2.1 2) ((cT S.1).length) (some qo_4))) 4 (va_up ((mdx (xi (xi (xi y 0 0) 3 0) 11 0) v2 lt2).2.2.1 4) S.2.1.length none)) ((qo_4, .inr (22, [.int (nI t9.1.length), .int (nI t9.2.2.length), .ref an, .ref aw, .ref af, .ref av, .ref at_])) :: (an, .inl (G.2.2.1 3, 8, .inr (.inl nf9))) :: (aw, .inl (G.2.2.1 0, 8, .inl wf9)) :: (af, .inl (G.2.2.1 0, 10, .inl ff9)) :: (av, .inl (G.2.2.1 0, 10, .inl vf9)) :: (at_, .inl (G.2.2.1 0, 10, .inl tf9)) :: W0) (nI (cT S.1).length)) (cwV 1 hts (lw_V q1287 q1289 qs36 q66 q1290) rfl rfl rfl (by decide +kernel) ⟨lb hR1 rfl, lb hR4 rfl⟩) hW (List.mem_of_getElem? (i := 0) rfl) (ci := 20) rfl rfl rfl hl.1 rfl (lv_room (Nat.le_of_ble_eq_true rfl)) dX4_thing_114 ⟨by omega, by omega⟩) hW (fun r_11 u_12 H locs h_13 hW => ?_)
          obtain ⟨rfl, rfl⟩ : r_11 = nI (cT S.1).length ∧ u_12 = _ := h_13
          have hW : pM G (MWl G ad (xr (xr (xa (xa (xa (xi (xi (xi (xi (mdx (xi (xi (xi y 0 0) 3 0) 11 0) v2 lt2) 1 0) 2 (-1)) 8 (nI ((cT S.1).length + 1))) 10 (nI (S.2.1.length + 1))) 3 (va_up ((mdx (xi (xi (xi y 0 0) 3 0) 11 0) v2 lt2).2.1 3) ((cT S.1).length) (nI (cN S.1)))) 11 (va_up ((mdx (xi (xi (xi y 0 0) 3 0) 11 0) v2 lt2).2.1 11) S.2.1.length 3)) 12 (va_up ((mdx (xi (xi (xi y 0 0) 3 0) 11 0) v2 lt2).2.1 12) S.2.1.length 0)) 2 (va_up ((mdx (xi (xi (xi y 0 0) 3 0) 11 0) v2 lt2).2.2.1 2) ((cT S.1).length) (some qo_4))) 4 (va_up ((mdx (xi (xi (xi y 0 0) 3 0) 11 0) v2 lt2).2.2.1 4) S.2.1.length none)) ++ ((qo_4, .inr (22, [.int (nI t9.1.length), .int (nI t9.2.2.length), .ref an, .ref aw, .ref af, .ref av, .ref at_])) :: (an, .inl (G.2.2.1 3, 8, .inr (.inl nf9))) :: (aw, .inl (G.2.2.1 0, 8, .inl wf9)) :: (af, .inl (G.2.2.1 0, 10, .inl ff9)) :: (av, .inl (G.2.2.1 0, 10, .inl vf9)) :: (at_, .inl (G.2.2.1 0, 10, .inl tf9)) :: W0)) s _ _ := hW
          exact re_i hF hRt hLk hQ (by omega) (by omega) dX4_thing_117 ((xr (xr (xa (xa (xa (xi (xi (xi (xi (mdx (xi (xi (xi y 0 0) 3 0) 11 0) v2 lt2) 1 0) 2 (-1)) 8 (nI ((cT S.1).length + 1))) 10 (nI (S.2.1.length + 1))) 3 (va_up ((mdx (xi (xi (xi y 0 0) 3 0) 11 0) v2 lt2).2.1 3) ((cT S.1).length) (nI (cN S.1)))) 11 (va_up ((mdx (xi (xi (xi y 0 0) 3 0) 11 0) v2 lt2).2.1 11) S.2.1.length 3)) 12 (va_up ((mdx (xi (xi (xi y 0 0) 3 0) 11 0) v2 lt2).2.1 12) S.2.1.length 0)) 2 (va_up ((mdx (xi (xi (xi y 0 0) 3 0) 11 0) v2 lt2).2.2.1 2) ((cT S.1).length) (some qo_4))) 4 (va_up ((mdx (xi (xi (xi y 0 0) 3 0) 11 0) v2 lt2).2.2.1 4) S.2.1.length none)), [(qo_4, .inr (22, [.int (nI t9.1.length), .int (nI t9.2.2.length), .ref an, .ref aw, .ref af, .ref av, .ref at_])), (an, .inl (G.2.2.1 3, 8, .inr (.inl nf9))), (aw, .inl (G.2.2.1 0, 8, .inl wf9)), (af, .inl (G.2.2.1 0, 10, .inl ff9)), (av, .inl (G.2.2.1 0, 10, .inl vf9)), (at_, .inl (G.2.2.1 0, 10, .inl tf9))]) (by unfold thingS; rw [hi1]; dsimp only; rw [hrd]; dsimp only; rw [if_neg hfl]; exact ⟨rfl, ⟨m0, m1, m2, m3.mono hml, m4, m5.mono hml, len_add (cT S.1) _, ThiR.add (p := (t9, cN S.1)) (m7.mono hml) hmt, m8, m9.mono hml, m10, rfl, ActM.add (a := (3, 0, 0, nT)) (m12.mono hml) (fun z => nomatch z), rfl, m14, rfl, rfl, rfl, m18, m19, m20, m21, m22⟩⟩) (pM.swp [(qo_4, .inr (22, [.int (nI t9.1.length), .int (nI t9.2.2.length), .ref an, .ref aw, .ref af, .ref av, .ref at_])), (an, .inl (G.2.2.1 3, 8, .inr (.inl nf9))), (aw, .inl (G.2.2.1 0, 8, .inl wf9)), (af, .inl (G.2.2.1 0, 10, .inl ff9)), (av, .inl (G.2.2.1 0, 10, .inl vf9)), (at_, .inl (G.2.2.1 0, 10, .inl tf9))] hW)
        · have hfl : (cT S.1).length = 12 := eq_eq (b := 12) c_58
          refine lv_aload_n hx hb dX4_thing_61 rfl (lv_at hl 1 rfl) ?_
          refine lv_iconst (v := 3) hx hb dX4_thing_62 (by decide) ?_
          refine cl_i (ru_V (As := [.int 3]) (rest := []) hF (mX4_refused l G ad (mdx (xi (xi (xi y 0 0) 3 0) 11 0) v2 lt2) ((qo_4, .inr (22, [.int (nI t9.1.length), .int (nI t9.2.2.length), .ref an, .ref aw, .ref af, .ref av, .ref at_])) :: (an, .inl (G.2.2.1 3, 8, .inr (.inl nf9))) :: (aw, .inl (G.2.2.1 0, 8, .inl wf9)) :: (af, .inl (G.2.2.1 0, 10, .inl ff9)) :: (av, .inl (G.2.2.1 0, 10, .inl vf9)) :: (at_, .inl (G.2.2.1 0, 10, .inl tf9)) :: W0) 3) (cwV 1 hts (lw_V q1255 q1257 qs29 q66 q1258) rfl rfl rfl (by decide +kernel) ⟨lb hR1 rfl, lb hR4 rfl⟩) hW (List.mem_of_getElem? (i := 0) rfl) (ci := 20) rfl rfl rfl hl.1 rfl (lv_room (Nat.le_of_ble_eq_true rfl)) dX4_thing_63 ⟨by omega, by omega⟩) hW (fun r_14 u_15 H locs h_16 hW => ?_)
          obtain ⟨rfl, rfl⟩ : r_14 = (-1) ∧ u_15 = _ := h_16
          have hW : pM G (MWl G ad (xi (xi (mdx (xi (xi (xi y 0 0) 3 0) 11 0) v2 lt2) 1 3) 2 (-1)) ++ ((qo_4, .inr (22, [.int (nI t9.1.length), .int (nI t9.2.2.length), .ref an, .ref aw, .ref af, .ref av, .ref at_])) :: (an, .inl (G.2.2.1 3, 8, .inr (.inl nf9))) :: (aw, .inl (G.2.2.1 0, 8, .inl wf9)) :: (af, .inl (G.2.2.1 0, 10, .inl ff9)) :: (av, .inl (G.2.2.1 0, 10, .inl vf9)) :: (at_, .inl (G.2.2.1 0, 10, .inl tf9)) :: W0)) s _ _ := hW
          exact re_i hF hRt hLk hQ (by omega) (by omega) dX4_thing_66 ((xi (xi (mdx (xi (xi (xi y 0 0) 3 0) 11 0) v2 lt2) 1 3) 2 (-1)), []) (by unfold thingS; rw [hi1]; dsimp only; rw [hrd]; dsimp only; rw [if_pos hfl]; exact ⟨rfl, MR.nil ⟨m0, m1, m2, m3, m4, m5, m6, m7, m8, m9, m10, m11, m12, rfl, m14, rfl, rfl, rfl, m18, m19, m20, m21, m22⟩⟩) (pM.nil (pM.drop6 hW))
    · exact absurd ((by rw [show (xi y 0 0).1 11 = nI S.2.2.2.1 from m13]; exact ixn_in hi1 (by omega) : 0 ≤ (nI k1) ∧ (nI k1) ≤ (xi y 0 0).1 11)) h_

set_option maxRecDepth 100000 in
set_option maxHeartbeats 8000000 in
theorem mX4_file (l : Launch) (G : pG) (ad : Nat → Nat) (y : XV) (W0 T : va_W) (hT : ∀ q ∈ T, q ∈ W0) (S : AS) (n9 : Nat) (hS : SOk n9 S) (hn9 : n9 ≤ 64) (hMR : MR G T y S) (a0 a1 : Int32) : vx_Met l yX4_file (wsW_ yX4_file cX4_file 5 (some .int) [((51 : Nat), (61 : Nat), (64 : Nat), (75 : Nat))]) ({ frames := 4, cells := 6, slots := 60, locals := 97 } : Room) (va_Pc [.ref (ad 0), .int a0, .int a1] (fun U => pW G (MWl G ad y ++ W0) U)) (va_Qi (fun r (u : XV × va_W) => r = (fileS S a0 a1).2 ∧ MR G (T ++ u.2) u.1 (fileS S a0 a1).1) (fun (u : XV × va_W) t9 => pW G (MWl G ad u.1 ++ (W0 ++ u.2)) t9) (pA G)) (fun _ _ _ _ => False) 6 60 (pA G) := by
  refine mh (by decide) (Nat.le_of_ble_eq_true rfl) ?_
  intro pp ee R s m below meth c ls Q hF hRt hLk htab hR hQ hW hl
  have hx := hF.1
  have hb := hF.2.1
  have hts := hF.2.2.2.2
  have hR1 : R.frames = 4 := by rw [hR]
  have hR2 : R.cells = 6 := by rw [hR]
  have hR3 : R.slots = 60 := by rw [hR]
  have hR4 : R.locals = 97 := by rw [hR]
  have hl : lv_has ls 5 [(0, .ref (ad 0)), (1, .int a0), (2, .int a1)] := hl
  have hW : pM G (MWl G ad y ++ W0) s s.heap [] := hW
  obtain ⟨m0, m1, m2, m3, m4, m5, m6, m7, m8, m9, m10, m11, m12, m13, m14, m15, m16, m17, m18, m19, m20, m21, m22⟩ := hMR
  have hI := hS.inv
  have b0 := hI.1.1
  have b1 := hI.2.1.1
  have b2 := hI.2.2.1.1
  have b3 := hI.2.2.2.1.1
  have b4 := hI.2.2.2.2.1.1
  have b5 := hI.2.2.2.2.2
  have b6 := hS.2.1
  have b7 := hS.2.2.1
  have b8 := hS.2.2.2.1
  have b9 := hS.2.2.2.2.1
  cases hi0 : ixo a0 (cF S.1).length with
  | none =>
    refine lv_aload_n hx hb dX4_file_0 rfl (lv_at hl 0 rfl) ?_
    refine lv_iconst (v := 0) hx hb dX4_file_1 (by decide) ?_
    refine pM0_thrown hF hW q1095 dX4_file_2 (fun H locs hW => ?_)
    have hW : pM G (MWl G ad (xi y 0 0) ++ W0) s _ _ := hW
    refine lv_iload_n hx hb dX4_file_5 rfl (lv_at hl 1 rfl) ?_
    refine lv_iconst (v := (-1)) hx hb dX4_file_6 (by decide) ?_
    refine lv_icmp_eq (tgt := 24) hx hb dX4_file_7 (by decide) (fun c_7 => absurd c_7 (ixo_no hi0).1) (fun c_7 => ?_)
    refine lv_aload_n hx hb dX4_file_10 rfl (lv_at hl 0 rfl) ?_
    refine lv_iload_n hx hb dX4_file_11 rfl (lv_at hl 1 rfl) ?_
    refine cl_i (ru_V (As := [.int a0]) (rest := []) hF (mX4_isFile l G ad (xi y 0 0) W0 a0) (cwV 1 hts (lw_V q1346 q1348 qs44 q66 q1349) rfl rfl rfl (by decide +kernel) ⟨lb hR1 rfl, lb hR4 rfl⟩) hW (List.mem_of_getElem? (i := 0) rfl) (ci := 20) rfl rfl rfl hl.1 rfl (lv_room (Nat.le_of_ble_eq_true rfl)) dX4_file_12 ⟨by omega, by omega⟩) hW (fun r_ u_ H locs h_ hW => ?_)
    have hW : pM G (MWl G ad (xi y 0 0) ++ W0) s _ _ := hW
    rcases h_ with ⟨rfl, h_⟩ | ⟨rfl, h_⟩
    · exact absurd h_ (fun z => ix_no (ixo_no hi0).2 (by rw [show (xi y 0 0).1 6 = nI (cF S.1).length from m4] at z; exact z))
    · refine lv_if_ne (tgt := 24) hx hb dX4_file_15 (by decide) (fun c_15 => absurd c_15 (by decide)) (fun c_15 => ?_)
      refine lv_aload_n hx hb dX4_file_18 rfl (lv_at hl 0 rfl) ?_
      refine lv_iconst (v := 1) hx hb dX4_file_19 (by decide) ?_
      refine cl_i (ru_V (As := [.int 1]) (rest := []) hF (mX4_refused l G ad (xi y 0 0) W0 1) (cwV 1 hts (lw_V q1255 q1257 qs29 q66 q1258) rfl rfl rfl (by decide +kernel) ⟨lb hR1 rfl, lb hR4 rfl⟩) hW (List.mem_of_getElem? (i := 0) rfl) (ci := 20) rfl rfl rfl hl.1 rfl (lv_room (Nat.le_of_ble_eq_true rfl)) dX4_file_20 ⟨by omega, by omega⟩) hW (fun r_1 u_2 H locs h_3 hW => ?_)
      obtain ⟨rfl, rfl⟩ : r_1 = (-1) ∧ u_2 = _ := h_3
      have hW : pM G (MWl G ad (xi (xi (xi y 0 0) 1 1) 2 (-1)) ++ W0) s _ _ := hW
      exact re_i hF hRt hLk hQ (by omega) (by omega) dX4_file_23 ((xi (xi (xi y 0 0) 1 1) 2 (-1)), []) (by unfold fileS; rw [hi0]; exact ⟨rfl, MR.nil ⟨m0, m1, m2, m3, m4, m5, m6, m7, m8, m9, m10, m11, m12, m13, m14, rfl, m16, rfl, m18, m19, m20, m21, m22⟩⟩) (pM.nil (hW))
  | some o =>
    obtain ⟨rfl, ho⟩ := ixo_enc hi0 (by omega)
    cases hi1 : ixn a1 S.2.2.2.1 with
    | none =>
      refine lv_aload_n hx hb dX4_file_0 rfl (lv_at hl 0 rfl) ?_
      refine lv_iconst (v := 0) hx hb dX4_file_1 (by decide) ?_
      refine pM0_thrown hF hW q1095 dX4_file_2 (fun H locs hW => ?_)
      have hW : pM G (MWl G ad (xi y 0 0) ++ W0) s _ _ := hW
      refine lv_iload_n hx hb dX4_file_5 rfl (lv_at hl 1 rfl) ?_
      refine lv_iconst (v := (-1)) hx hb dX4_file_6 (by decide) ?_
      refine lv_icmp_eq (tgt := 24) hx hb dX4_file_7 (by decide) (fun c_7 => ?_) (fun c_7 => ?_)
      · refine lv_aload_n hx hb dX4_file_24 rfl (lv_at hl 0 rfl) ?_
        refine lv_iload_n hx hb dX4_file_25 rfl (lv_at hl 2 rfl) ?_
        refine cl_i (ru_V (As := [.int a1]) (rest := []) hF (mX4_isTaped l G ad (xi y 0 0) W0 a1) (cwV 1 hts (lw_V q1259 q1261 qs30 q66 q1262) rfl rfl rfl (by decide +kernel) ⟨lb hR1 rfl, lb hR4 rfl⟩) hW (List.mem_of_getElem? (i := 0) rfl) (ci := 20) rfl rfl rfl hl.1 rfl (lv_room (Nat.le_of_ble_eq_true rfl)) dX4_file_26 ⟨by omega, by omega⟩) hW (fun r_ u_ H locs h_ hW => ?_)
        have hW : pM G (MWl G ad (xi y 0 0) ++ W0) s _ _ := hW
        rcases h_ with ⟨rfl, h_⟩ | ⟨rfl, h_⟩
        · exact absurd h_ (fun z => ixn_no hi1 (by omega) (by rw [show (xi y 0 0).1 11 = nI S.2.2.2.1 from m13] at z; exact z))
        · refine lv_if_ne (tgt := 38) hx hb dX4_file_29 (by decide) (fun c_29 => absurd c_29 (by decide)) (fun c_29 => ?_)
          refine lv_aload_n hx hb dX4_file_32 rfl (lv_at hl 0 rfl) ?_
          refine lv_iconst (v := 2) hx hb dX4_file_33 (by decide) ?_
          refine cl_i (ru_V (As := [.int 2]) (rest := []) hF (mX4_refused l G ad (xi y 0 0) W0 2) (cwV 1 hts (lw_V q1255 q1257 qs29 q66 q1258) rfl rfl rfl (by decide +kernel) ⟨lb hR1 rfl, lb hR4 rfl⟩) hW (List.mem_of_getElem? (i := 0) rfl) (ci := 20) rfl rfl rfl hl.1 rfl (lv_room (Nat.le_of_ble_eq_true rfl)) dX4_file_34 ⟨by omega, by omega⟩) hW (fun r_4 u_5 H locs h_6 hW => ?_)
          obtain ⟨rfl, rfl⟩ : r_4 = (-1) ∧ u_5 = _ := h_6
          have hW : pM G (MWl G ad (xi (xi (xi y 0 0) 1 2) 2 (-1)) ++ W0) s _ _ := hW
          exact re_i hF hRt hLk hQ (by omega) (by omega) dX4_file_37 ((xi (xi (xi y 0 0) 1 2) 2 (-1)), []) (by unfold fileS; rw [hi0]; dsimp only; rw [hi1]; exact ⟨rfl, MR.nil ⟨m0, m1, m2, m3, m4, m5, m6, m7, m8, m9, m10, m11, m12, m13, m14, rfl, m16, rfl, m18, m19, m20, m21, m22⟩⟩) (pM.nil (hW))
      · obtain ⟨k0, rfl⟩ : ∃ k, o = some k := by cases o with | none => exact absurd rfl c_7 | some k => exact ⟨k, rfl⟩
        have hk0 := ho k0 rfl
        refine lv_aload_n hx hb dX4_file_10 rfl (lv_at hl 0 rfl) ?_
        refine lv_iload_n hx hb dX4_file_11 rfl (lv_at hl 1 rfl) ?_
        refine cl_i (ru_V (As := [.int (enc (some k0))]) (rest := []) hF (mX4_isFile l G ad (xi y 0 0) W0 (enc (some k0))) (cwV 1 hts (lw_V q1346 q1348 qs44 q66 q1349) rfl rfl rfl (by decide +kernel) ⟨lb hR1 rfl, lb hR4 rfl⟩) hW (List.mem_of_getElem? (i := 0) rfl) (ci := 20) rfl rfl rfl hl.1 rfl (lv_room (Nat.le_of_ble_eq_true rfl)) dX4_file_12 ⟨by omega, by omega⟩) hW (fun r_ u_ H locs h_ hW => ?_)
        have hW : pM G (MWl G ad (xi y 0 0) ++ W0) s _ _ := hW
        rcases h_ with ⟨rfl, h_⟩ | ⟨rfl, h_⟩
        · refine lv_if_ne (tgt := 24) hx hb dX4_file_15 (by decide) (fun c_15 => ?_) (fun c_15 => absurd c_15 (by decide))
          refine lv_aload_n hx hb dX4_file_24 rfl (lv_at hl 0 rfl) ?_
          refine lv_iload_n hx hb dX4_file_25 rfl (lv_at hl 2 rfl) ?_
          refine cl_i (ru_V (As := [.int a1]) (rest := []) hF (mX4_isTaped l G ad (xi y 0 0) W0 a1) (cwV 1 hts (lw_V q1259 q1261 qs30 q66 q1262) rfl rfl rfl (by decide +kernel) ⟨lb hR1 rfl, lb hR4 rfl⟩) hW (List.mem_of_getElem? (i := 0) rfl) (ci := 20) rfl rfl rfl hl.1 rfl (lv_room (Nat.le_of_ble_eq_true rfl)) dX4_file_26 ⟨by omega, by omega⟩) hW (fun r_ u_ H locs h_ hW => ?_)
          have hW : pM G (MWl G ad (xi y 0 0) ++ W0) s _ _ := hW
          rcases h_ with ⟨rfl, h_⟩ | ⟨rfl, h_⟩
          · exact absurd h_ (fun z => ixn_no hi1 (by omega) (by rw [show (xi y 0 0).1 11 = nI S.2.2.2.1 from m13] at z; exact z))
          · refine lv_if_ne (tgt := 38) hx hb dX4_file_29 (by decide) (fun c_29 => absurd c_29 (by decide)) (fun c_29 => ?_)
            refine lv_aload_n hx hb dX4_file_32 rfl (lv_at hl 0 rfl) ?_
            refine lv_iconst (v := 2) hx hb dX4_file_33 (by decide) ?_
            refine cl_i (ru_V (As := [.int 2]) (rest := []) hF (mX4_refused l G ad (xi y 0 0) W0 2) (cwV 1 hts (lw_V q1255 q1257 qs29 q66 q1258) rfl rfl rfl (by decide +kernel) ⟨lb hR1 rfl, lb hR4 rfl⟩) hW (List.mem_of_getElem? (i := 0) rfl) (ci := 20) rfl rfl rfl hl.1 rfl (lv_room (Nat.le_of_ble_eq_true rfl)) dX4_file_34 ⟨by omega, by omega⟩) hW (fun r_7 u_8 H locs h_9 hW => ?_)
            obtain ⟨rfl, rfl⟩ : r_7 = (-1) ∧ u_8 = _ := h_9
            have hW : pM G (MWl G ad (xi (xi (xi y 0 0) 1 2) 2 (-1)) ++ W0) s _ _ := hW
            exact re_i hF hRt hLk hQ (by omega) (by omega) dX4_file_37 ((xi (xi (xi y 0 0) 1 2) 2 (-1)), []) (by unfold fileS; rw [hi0]; dsimp only; rw [hi1]; exact ⟨rfl, MR.nil ⟨m0, m1, m2, m3, m4, m5, m6, m7, m8, m9, m10, m11, m12, m13, m14, rfl, m16, rfl, m18, m19, m20, m21, m22⟩⟩) (pM.nil (hW))
        · exact absurd ((by rw [show (xi y 0 0).1 6 = nI (cF S.1).length from m4]; exact ix_in (ixo_s hi0).1 : 0 ≤ enc (some k0) ∧ enc (some k0) < (xi y 0 0).1 6)) h_
    | some k1 =>
      obtain ⟨hk1, rfl⟩ := ixn_some hi1 (by omega)
      refine lv_aload_n hx hb dX4_file_0 rfl (lv_at hl 0 rfl) ?_
      refine lv_iconst (v := 0) hx hb dX4_file_1 (by decide) ?_
      refine pM0_thrown hF hW q1095 dX4_file_2 (fun H locs hW => ?_)
      have hW : pM G (MWl G ad (xi y 0 0) ++ W0) s _ _ := hW
      refine lv_iload_n hx hb dX4_file_5 rfl (lv_at hl 1 rfl) ?_
      refine lv_iconst (v := (-1)) hx hb dX4_file_6 (by decide) ?_
      refine lv_icmp_eq (tgt := 24) hx hb dX4_file_7 (by decide) (fun c_7 => ?_) (fun c_7 => ?_)
      · refine lv_aload_n hx hb dX4_file_24 rfl (lv_at hl 0 rfl) ?_
        refine lv_iload_n hx hb dX4_file_25 rfl (lv_at hl 2 rfl) ?_
        refine cl_i (ru_V (As := [.int (nI k1)]) (rest := []) hF (mX4_isTaped l G ad (xi y 0 0) W0 (nI k1)) (cwV 1 hts (lw_V q1259 q1261 qs30 q66 q1262) rfl rfl rfl (by decide +kernel) ⟨lb hR1 rfl, lb hR4 rfl⟩) hW (List.mem_of_getElem? (i := 0) rfl) (ci := 20) rfl rfl rfl hl.1 rfl (lv_room (Nat.le_of_ble_eq_true rfl)) dX4_file_26 ⟨by omega, by omega⟩) hW (fun r_ u_ H locs h_ hW => ?_)
        have hW : pM G (MWl G ad (xi y 0 0) ++ W0) s _ _ := hW
        rcases h_ with ⟨rfl, h_⟩ | ⟨rfl, h_⟩
        · refine lv_if_ne (tgt := 38) hx hb dX4_file_29 (by decide) (fun c_29 => ?_) (fun c_29 => absurd c_29 (by decide))
          refine lv_aload_n hx hb dX4_file_38 rfl (lv_at hl 0 rfl) ?_
          refine lv_iconst (v := 0) hx hb dX4_file_39 (by decide) ?_
          refine pM0_fault hF hW q1098 dX4_file_40 (fun H locs hW => ?_)
          have hW : pM G (MWl G ad (xi (xi y 0 0) 3 0) ++ W0) s _ _ := hW
          refine nw (ci := 22) hF hW rfl in_X6 tyX6 tyX6_ok q1037 q1061 q68 (fs := [.int 0, .int 0, .null, .null, .null, .null, .null]) (fun j hj => by match j, hj with | 0, _ => rfl | 1, _ => rfl | 2, _ => rfl | 3, _ => rfl | 4, _ => rfl | 5, _ => rfl | 6, _ => rfl) (by omega) (by omega) dX4_file_43 (fun qo_10 H hW => ?_)
          have hW := hW.asc
          have hW : pM G (MWl G ad (xi (xi y 0 0) 3 0) ++ (W0 ++ [(qo_10, .inr (22, [.int 0, .int 0, .null, .null, .null, .null, .null]))])) s _ _ := hW
          refine lv_dup hx hb dX4_file_46 rfl ?_
          have hW := pM.csa (A := MWl G ad (xi (xi y 0 0) 3 0)) (B := W0) hW
          refine cl_v (ru_IN (As := []) (rest := [.ref qo_10]) hF (mX6_init l G (MWl G ad (xi (xi y 0 0) 3 0) ++ W0) qo_10) ⟨va_cnB 0 hts (lw_meth q1064) rfl rfl rfl (hW.2.2.2.2.2.1 _ (List.mem_of_getElem? (i := 26) rfl)) (hts _ q68) (by decide +kernel) ⟨lb hR1 rfl, lb hR4 rfl⟩, rfl, hts _ q1063⟩ hW rfl rfl hl.1 rfl (lv_room (Nat.le_of_ble_eq_true rfl)) dX4_file_47 ⟨by omega, by omega⟩) hW (fun u_ H locs _ hW => ?_)
          obtain ⟨an, aw, af, av, at_⟩ := u_
          have hW := pM.rot (A := MWl G ad (xi (xi y 0 0) 3 0)) (B := W0) hW
          have hW : pM G (MWl G ad (xi (xi y 0 0) 3 0) ++ ((qo_10, .inr (22, [.int (nI nT.1.length), .int (nI nT.2.2.length), .ref an, .ref aw, .ref af, .ref av, .ref at_])) :: (an, .inl (G.2.2.1 3, 8, .inr (.inl (fun _ => 0)))) :: (aw, .inl (G.2.2.1 0, 8, .inl (fun _ => 0))) :: (af, .inl (G.2.2.1 0, 10, .inl (fun _ => 0))) :: (av, .inl (G.2.2.1 0, 10, .inl (fun _ => 0))) :: (at_, .inl (G.2.2.1 0, 10, .inl (fun _ => 0))) :: W0)) s _ _ := hW
          refine lv_astore_n (lv' := [(3, .ref qo_10), (0, .ref (ad 0)), (1, .int (enc o)), (2, .int (nI k1))]) hx hb dX4_file_50 rfl hl (by decide) rfl (fun ls hl => ?_)
          refine lv_aload_n hx hb dX4_file_51 rfl (lv_at hl 1 rfl) ?_
          refine lv_aload_n hx hb dX4_file_52 rfl (lv_at hl 0 rfl) ?_
          refine lv_iload_n hx hb dX4_file_53 rfl (lv_at hl 3 rfl) ?_
          refine lv_bipush (v := 8) hx hb dX4_file_54 (by decide) ?_
          refine lv_bipush (v := 10) hx hb dX4_file_56 (by decide) ?_
          have hn : k1 ≤ 300 := by omega
          have hW : pM G (MWl G ad (mdx (xi (xi y 0 0) 3 0) (xi (xi y 0 0) 3 0).1 ((xi (xi y 0 0) 3 0).2.2.2.2.1 0)) ++ ((qo_10, .inr (22, [.int (nI nT.1.length), .int (nI nT.2.2.length), .ref an, .ref aw, .ref af, .ref av, .ref at_])) :: (an, .inl (G.2.2.1 3, 8, .inr (.inl (fun _ => 0)))) :: (aw, .inl (G.2.2.1 0, 8, .inl (fun _ => 0))) :: (af, .inl (G.2.2.1 0, 10, .inl (fun _ => 0))) :: (av, .inl (G.2.2.1 0, 10, .inl (fun _ => 0))) :: (at_, .inl (G.2.2.1 0, 10, .inl (fun _ => 0))) :: W0)) s _ _ := hW
          refine cx_v (rx_V (As := [.ref qo_10, .int (nI k1), .int 8, .int 10]) (rest := []) hF (mX4_reads l G ad (xi (xi y 0 0) 3 0) W0 (xi (xi y 0 0) 3 0).1 ((xi (xi y 0 0) 3 0).2.2.2.2.1 0) k1 hn (cW S.1) m1.1 b0 m0 hI.1.2.2.1 qo_10 an aw af av at_ (fun _ => 0) (fun _ => 0) (fun _ => 0) (fun _ => 0) (fun _ => 0) nT MHc_n 8 10 (nT_ok) (by omega) (by omega)) (cwV 4 hts (lw_V q1314 q1316 qs39 q66 q1317) rfl rfl rfl (by decide +kernel) ⟨lb hR1 rfl, lb hR4 rfl⟩) hW (List.mem_of_getElem? (i := 0) rfl) (ci := 20) rfl rfl rfl hl.1 rfl (lv_room (Nat.le_of_ble_eq_true rfl)) dX4_file_58 ⟨by omega, by omega⟩) hW (fun u_12 H locs h_13 hW => ?_) (fun u_12 H locs h_13 hW => ?_)
          · obtain ⟨e1, e2, v2, lt2⟩ := u_12
            have hrd : readS S k1 8 10 nT = .inl (e1, e2) := by unfold readS; rw [← m14]; exact h_13
            have hW : pM G (MWl G ad (mdx (xi (xi (xi (xi (xi y 0 0) 3 0) 11 0) 21 (nI e1)) 22 (nI e2)) v2 lt2) ++ W0) s _ _ := hW
            refine ca hF htab rfl rfl (by decide) q1039 (List.mem_of_getElem? (i := 39) rfl) hW (List.mem_of_getElem? (i := 20) rfl) (ci := 21) rfl ?_
            refine lv_astore (lv' := [(4, .ref (ad 20)), (3, .ref qo_10), (0, .ref (ad 0)), (1, .int (enc o)), (2, .int (nI k1))]) hx hb dX4_file_64 hl (by decide) rfl (fun ls hl => ?_)
            refine lv_aload_n hx hb dX4_file_66 rfl (lv_at hl 2 rfl) ?_
            refine lv_aload hx hb dX4_file_67 (lv_at hl 0 rfl) ?_
            refine cl_i (ru_V (As := [.ref (ad 20)]) (rest := []) hF (mX4_wrong l G ad (mdx (xi (xi (xi (xi (xi y 0 0) 3 0) 11 0) 21 (nI e1)) 22 (nI e2)) v2 lt2) W0) (cwV 1 hts (lw_V q1334 q1336 qs43 q66 q1337) rfl rfl rfl (by decide +kernel) ⟨lb hR1 rfl, lb hR4 rfl⟩) hW (List.mem_of_getElem? (i := 0) rfl) (ci := 20) rfl rfl rfl hl.1 rfl (lv_room (Nat.le_of_ble_eq_true rfl)) dX4_file_69 ⟨by omega, by omega⟩) hW (fun r_ u_ H locs h_ hW => ?_)
            obtain ⟨rfl, rfl⟩ : r_ = -1 ∧ u_ = _ := h_
            have hW : pM G (MWl G ad (xi (xi (xi (mdx (xi (xi (xi (xi (xi y 0 0) 3 0) 11 0) 21 (nI e1)) 22 (nI e2)) v2 lt2) 1 4) 2 (nI e2)) 3 (nI e1)) ++ W0) s _ _ := hW
            exact re_i hF hRt hLk hQ (by omega) (by omega) dX4_file_72 ((xi (xi (xi (mdx (xi (xi (xi (xi (xi y 0 0) 3 0) 11 0) 21 (nI e1)) 22 (nI e2)) v2 lt2) 1 4) 2 (nI e2)) 3 (nI e1)), []) (by unfold fileS; rw [hi0]; dsimp only; rw [hi1]; dsimp only; rw [hrd]; exact ⟨rfl, MR.nil ⟨m0, m1, m2, m3, m4, m5, m6, m7, m8, m9, m10, m11, m12, rfl, m14, rfl, rfl, rfl, m18, m19, m20, m21, m22⟩⟩) (pM.nil (hW))
          · obtain ⟨t9, nf9, wf9, ff9, vf9, tf9, v2, lt2⟩ := u_12
            obtain ⟨hrd, hok9, ht9⟩ := h_13
            have hrd : readS S k1 8 10 nT = .inr t9 := by unfold readS; rw [← m14]; exact hrd
            have hok9 : TxOk (cW S.1).length 8 10 t9 := hok9
            have ht9 : MHc t9 nf9 wf9 ff9 vf9 tf9 := ht9
            have hW : pM G (MWl G ad (mdx (xi (xi (xi y 0 0) 3 0) 11 0) v2 lt2) ++ ((qo_10, .inr (22, [.int (nI t9.1.length), .int (nI t9.2.2.length), .ref an, .ref aw, .ref af, .ref av, .ref at_])) :: (an, .inl (G.2.2.1 3, 8, .inr (.inl nf9))) :: (aw, .inl (G.2.2.1 0, 8, .inl wf9)) :: (af, .inl (G.2.2.1 0, 10, .inl ff9)) :: (av, .inl (G.2.2.1 0, 10, .inl vf9)) :: (at_, .inl (G.2.2.1 0, 10, .inl tf9)) :: W0)) s _ _ := hW
            refine lv_goto (tgt := 73) hx hb dX4_file_61 (by decide) ?_
            refine lv_aload_n hx hb dX4_file_73 rfl (lv_at hl 1 rfl) ?_
            refine gM0_files hF hW q1101 (v := nI (cF S.1).length) (m4) dX4_file_74 ?_
            refine lv_bipush (v := 8) hx hb dX4_file_77 (by decide) ?_
            refine lv_icmp_ne (tgt := 88) hx hb dX4_file_79 (by decide) (fun c_79 => ?_) (fun c_79 => ?_)
            · have hfl : ¬ (cF S.1).length = 8 := fun z => c_79 (by rw [z]; rfl)
              have hml : ∀ z ∈ T, z ∈ T ++ [(qo_10, .inr (22, [.int (nI t9.1.length), .int (nI t9.2.2.length), .ref an, .ref aw, .ref af, .ref av, .ref at_])), (an, .inl (G.2.2.1 3, 8, .inr (.inl nf9))), (aw, .inl (G.2.2.1 0, 8, .inl wf9)), (af, .inl (G.2.2.1 0, 10, .inl ff9)), (av, .inl (G.2.2.1 0, 10, .inl vf9)), (at_, .inl (G.2.2.1 0, 10, .inl tf9))] := fun z h => List.mem_append_left _ h
              have hmt : MT G (T ++ [(qo_10, .inr (22, [.int (nI t9.1.length), .int (nI t9.2.2.length), .ref an, .ref aw, .ref af, .ref av, .ref at_])), (an, .inl (G.2.2.1 3, 8, .inr (.inl nf9))), (aw, .inl (G.2.2.1 0, 8, .inl wf9)), (af, .inl (G.2.2.1 0, 10, .inl ff9)), (av, .inl (G.2.2.1 0, 10, .inl vf9)), (at_, .inl (G.2.2.1 0, 10, .inl tf9))]) qo_10 t9 := ⟨an, aw, af, av, at_, nf9, wf9, ff9, vf9, tf9, List.mem_append_right _ (List.mem_of_getElem? (i := 0) rfl), List.mem_append_right _ (List.mem_of_getElem? (i := 1) rfl), List.mem_append_right _ (List.mem_of_getElem? (i := 2) rfl), List.mem_append_right _ (List.mem_of_getElem? (i := 3) rfl), List.mem_append_right _ (List.mem_of_getElem? (i := 4) rfl), List.mem_append_right _ (List.mem_of_getElem? (i := 5) rfl), ht9⟩
              refine lv_aload_n hx hb dX4_file_88 rfl (lv_at hl 1 rfl) ?_
              refine gM0_file hF hW q1108 dX4_file_89 ?_
              refine lv_aload_n hx hb dX4_file_92 rfl (lv_at hl 1 rfl) ?_
              refine gM0_files hF hW q1101 (v := nI (cF S.1).length) (m4) dX4_file_93 ?_
              refine lv_aload_n hx hb dX4_file_96 rfl (lv_at hl 0 rfl) ?_
              refine sM4 hF hW (ms_r (List.mem_of_getElem? (i := 0) rfl)) (ci := 22) rfl rfl (j := (cF S.1).length) (rfl) (by omega) dX4_file_97 (fun H locs hW => ?_)
              have hW : pM G (MWl G ad (xr (mdx (xi (xi (xi y 0 0) 3 0) 11 0) v2 lt2) 1 (va_up ((mdx (xi (xi (xi y 0 0) 3 0) 11 0) v2 lt2).2.2.1 1) ((cF S.1).length) (some qo_10))) ++ ((qo_10, .inr (22, [.int (nI t9.1.length), .int (nI t9.2.2.length), .ref an, .ref aw, .ref af, .ref av, .ref at_])) :: (an, .inl (G.2.2.1 3, 8, .inr (.inl nf9))) :: (aw, .inl (G.2.2.1 0, 8, .inl wf9)) :: (af, .inl (G.2.2.1 0, 10, .inl ff9)) :: (av, .inl (G.2.2.1 0, 10, .inl vf9)) :: (at_, .inl (G.2.2.1 0, 10, .inl tf9)) :: W0)) s _ _ := hW
              refine lv_aload_n hx hb dX4_file_98 rfl (lv_at hl 1 rfl) ?_
              refine gM0_fileDay hF hW q1114 dX4_file_99 ?_
              refine lv_aload_n hx hb dX4_file_102 rfl (lv_at hl 1 rfl) ?_
              refine gM0_files hF hW q1101 (v := nI (cF S.1).length) (m4) dX4_file_103 ?_
              refine lv_aload_n hx hb dX4_file_106 rfl (lv_at hl 1 rfl) ?_
              refine gM0_now hF hW q1104 (v := nI (cN S.1)) (m10) dX4_file_107 ?_
              refine sM10 hF hW (j := (cF S.1).length) (rfl) (by omega) dX4_file_110 (fun H locs hW => ?_)
              have hW : pM G (MWl G ad (xr (xa (mdx (xi (xi (xi y 0 0) 3 0) 11 0) v2 lt2) 4 (va_up ((mdx (xi (xi (xi y 0 0) 3 0) 11 0) v2 lt2).2.1 4) ((cF S.1).length) (nI (cN S.1)))) 1 (va_up ((mdx (xi (xi (xi y 0 0) 3 0) 11 0) v2 lt2).2.2.1 1) ((cF S.1).length) (some qo_10))) ++ ((qo_10, .inr (22, [.int (nI t9.1.length), .int (nI t9.2.2.length), .ref an, .ref aw, .ref af, .ref av, .ref at_])) :: (an, .inl (G.2.2.1 3, 8, .inr (.inl nf9))) :: (aw, .inl (G.2.2.1 0, 8, .inl wf9)) :: (af, .inl (G.2.2.1 0, 10, .inl ff9)) :: (av, .inl (G.2.2.1 0, 10, .inl vf9)) :: (at_, .inl (G.2.2.1 0, 10, .inl tf9)) :: W0)) s _ _ := hW
              refine lv_aload_n hx hb dX4_file_111 rfl (lv_at hl 1 rfl) ?_
              refine gM0_fileBack hF hW q1115 dX4_file_112 ?_
              refine lv_aload_n hx hb dX4_file_115 rfl (lv_at hl 1 rfl) ?_
              refine gM0_files hF hW q1101 (v := nI (cF S.1).length) (m4) dX4_file_116 ?_
              refine lv_iload_n hx hb dX4_file_119 rfl (lv_at hl 2 rfl) ?_
              refine sM11 hF hW (j := (cF S.1).length) (rfl) (by omega) dX4_file_120 (fun H locs hW => ?_)
              have hW : pM G (MWl G ad (xr (xa (xa (mdx (xi (xi (xi y 0 0) 3 0) 11 0) v2 lt2) 4 (va_up ((mdx (xi (xi (xi y 0 0) 3 0) 11 0) v2 lt2).2.1 4) ((cF S.1).length) (nI (cN S.1)))) 5 (va_up ((mdx (xi (xi (xi y 0 0) 3 0) 11 0) v2 lt2).2.1 5) ((cF S.1).length) (enc o))) 1 (va_up ((mdx (xi (xi (xi y 0 0) 3 0) 11 0) v2 lt2).2.2.1 1) ((cF S.1).length) (some qo_10))) ++ ((qo_10, .inr (22, [.int (nI t9.1.length), .int (nI t9.2.2.length), .ref an, .ref aw, .ref af, .ref av, .ref at_])) :: (an, .inl (G.2.2.1 3, 8, .inr (.inl nf9))) :: (aw, .inl (G.2.2.1 0, 8, .inl wf9)) :: (af, .inl (G.2.2.1 0, 10, .inl ff9)) :: (av, .inl (G.2.2.1 0, 10, .inl vf9)) :: (at_, .inl (G.2.2.1 0, 10, .inl tf9)) :: W0)) s _ _ := hW
              refine lv_aload_n hx hb dX4_file_121 rfl (lv_at hl 1 rfl) ?_
              refine lv_iconst (v := 4) hx hb dX4_file_122 (by decide) ?_
              refine lv_iconst (v := 0) hx hb dX4_file_123 (by decide) ?_
              refine lv_null hx hb dX4_file_124 ?_
              refine cl_v (ru_V (As := [.int 4, .int 0, .null]) (rest := []) hF (mX4_act_n l G ad (xr (xa (xa (mdx (xi (xi (xi y 0 0) 3 0) 11 0) v2 lt2) 4 (va_up ((mdx (xi (xi (xi y 0 0) 3 0) 11 0) v2 lt2).2.1 4) ((cF S.1).length) (nI (cN S.1)))) 5 (va_up ((mdx (xi (xi (xi y 0 0) 3 0) 11 0) v2 lt2).2.1 5) ((cF S.1).length) (enc o))) 1 (va_up ((mdx (xi (xi (xi y 0 0) 3 0) 11 0) v2 lt2).2.2.1 1) ((cF S.1).length) (some qo_10))) ((qo_10, .inr (22, [.int (nI t9.1.length), .int (nI t9.2.2.length), .ref an, .ref aw, .ref af, .ref av, .ref at_])) :: (an, .inl (G.2.2.1 3, 8, .inr (.inl nf9))) :: (aw, .inl (G.2.2.1 0, 8, .inl wf9)) :: (af, .inl (G.2.2.1 0, 10, .inl ff9)) :: (av, .inl (G.2.2.1 0, 10, .inl vf9)) :: (at_, .inl (G.2.2.1 0, 10, .inl tf9)) :: W0) S.2.1.length (by omega) (m11) 4 0) (cwV 3 hts (lw_V q1283 q1285 qs35 q66 q1286) rfl rfl rfl (by decide +kernel) ⟨lb hR1 rfl, lb hR4 rfl⟩) hW (List.mem_of_getElem? (i := 0) rfl) (ci := 20) rfl rfl rfl hl.1 rfl (lv_room (Nat.le_of_ble_eq_true rfl)) dX4_file_125 ⟨by omega, by omega⟩) hW (fun u_15 H locs h_16 hW => ?_)
              obtain rfl : u_15 = _ := h_16
              have hW : pM G (MWl G ad (xr (xr (xa (xa (xa (xa (xi (mdx (xi (xi (xi y 0 0) 3 0) 11 0) v2 lt2) 10 (nI (S.2.1.length + 1))) 4 (va_up ((mdx (xi (xi (xi y 0 0) 3 0) 11 0) v2 lt2).2.1 4) ((cF S.1).length) (nI (cN S.1)))) 5 (va_up ((mdx (xi (xi (xi y 0 0) 3 0) 11 0) v2 lt2).2.1 5) ((cF S.1).length) (enc o))) 11 (va_up ((mdx (xi (xi (xi y 0 0) 3 0) 11 0) v2 lt2).2.1 11) S.2.1.length 4)) 12 (va_up ((mdx (xi (xi (xi y 0 0) 3 0) 11 0) v2 lt2).2.1 12) S.2.1.length 0)) 1 (va_up ((mdx (xi (xi (xi y 0 0) 3 0) 11 0) v2 lt2).2.2.1 1) ((cF S.1).length) (some qo_10))) 4 (va_up ((mdx (xi (xi (xi y 0 0) 3 0) 11 0) v2 lt2).2.2.1 4) S.2.1.length none)) ++ ((qo_10, .inr (22, [.int (nI t9.1.length), .int (nI t9.2.2.length), .ref an, .ref aw, .ref af, .ref av, .ref at_])) :: (an, .inl (G.2.2.1 3, 8, .inr (.inl nf9))) :: (aw, .inl (G.2.2.1 0, 8, .inl wf9)) :: (af, .inl (G.2.2.1 0, 10, .inl ff9)) :: (av, .inl (G.2.2.1 0, 10, .inl vf9)) :: (at_, .inl (G.2.2.1 0, 10, .inl tf9)) :: W0)) s _ _ := hW
              refine lv_aload_n hx hb dX4_file_128 rfl (lv_at hl 1 rfl) ?_
              refine lv_dup hx hb dX4_file_129 rfl ?_
              refine gM0_files hF hW q1101 (v := nI (cF S.1).length) (m4) dX4_file_130 ?_
              refine lv_iconst (v := 1) hx hb dX4_file_133 (by decide) ?_
              refine lv_iadd hx hb dX4_file_134 ?_
              refine lv_eqi (show (nI (cF S.1).length) + 1 = nI ((cF S.1).length + 1) from nI_add ((cF S.1).length) 1) ?_
              refine pM0_files hF hW q1101 dX4_file_135 (fun H locs hW => ?_)
              have hW : pM G (MWl G ad (xr (xr (xa (xa (xa (xa (xi (xi (mdx (xi (xi (xi y 0 0) 3 0) 11 0) v2 lt2) 6 (nI ((cF S.1).length + 1))) 10 (nI (S.2.1.length + 1))) 4 (va_up ((mdx (xi (xi (xi y 0 0) 3 0) 11 0) v2 lt2).2.1 4) ((cF S.1).length) (nI (cN S.1)))) 5 (va_up ((mdx (xi (xi (xi y 0 0) 3 0) 11 0) v2 lt2).2.1 5) ((cF S.1).length) (enc o))) 11 (va_up ((mdx (xi (xi (xi y 0 0) 3 0) 11 0) v2 lt2).2.1 11) S.2.1.length 4)) 12 (va_up ((mdx (xi (xi (xi y 0 0) 3 0) 11 0) v2 lt2).2.1 12) S.2.1.length 0)) 1 (va_up ((mdx (xi (xi (xi y 0 0) 3 0) 11 0) v2 lt2).2.2.1 1) ((cF S.1).length) (some qo_10))) 4 (va_up ((mdx (xi (xi (xi y 0 0) 3 0) 11 0) v2 lt2).2.2.1 4) S.2.1.length none)) ++ ((qo_10, .inr (22, [.int (nI t9.1.length), .int (nI t9.2.2.length), .ref an, .ref aw, .ref af, .ref av, .ref at_])) :: (an, .inl (G.2.2.1 3, 8, .inr (.inl nf9))) :: (aw, .inl (G.2.2.1 0, 8, .inl wf9)) :: (af, .inl (G.2.2.1 0, 10, .inl ff9)) :: (av, .inl (G.2.2.1 0, 10, .inl vf9)) :: (at_, .inl (G.2.2.1 0, 10, .inl tf9)) :: W0)) s _ _ := hW
              refine lv_aload_n hx hb dX4_file_138 rfl (lv_at hl 1 rfl) ?_
              refine lv_aload_n hx hb dX4_file_139 rfl (lv_at hl 1 rfl) ?_
              refine gM0_files hF hW q1101 (v := nI ((cF S.1).length + 1)) (rfl) dX4_file_140 ?_
              refine lv_iconst (v := 1) hx hb dX4_file_143 (by decide) ?_
              refine lv_isub hx hb dX4_file_144 ?_
              refine lv_eqi (show (nI ((cF S.1).length + 1)) - 1 = nI (cF S.1).length from nI_m1 _) ?_
              refine cl_i (ru_V (As := [.int (nI (cF S.1).length)]) (rest := []) hF (mX4_done l G ad (xr (xr (xa (xa (xa (xa (xi (xi (mdx (xi (xi (xi y 0 0) 3 0) 11 0) v2 lt2) 6 (nI ((cF S.1).length + 1))) 10 (nI (S.2.1.length + 1))) 4 (va_up ((mdx (xi (xi (xi y 0 0) 3 0) 11 0) v2 lt2).2.1 4) ((cF S.1).length) (nI (cN S.1)))) 5 (va_up ((mdx (xi (xi (xi y 0 0) 3 0) 11 0) v2 lt2).2.1 5) ((cF S.1).length) (enc o))) 11 (va_up ((mdx (xi (xi (xi y 0 0) 3 0) 11 0) v2 lt2).2.1 11) S.2.1.length 4)) 12 (va_up ((mdx (xi (xi (xi y 0 0) 3 0) 11 0) v2 lt2).2.1 12) S.2.1.length 0)) 1 (va_up ((mdx (xi (xi (xi y 0 0) 3 0) 11 0) v2 lt2).2.2.1 1) ((cF S.1).length) (some qo_10))) 4 (va_up ((mdx (xi (xi (xi y 0 0) 3 0) 11 0) v2 lt2).2.2.1 4) S.2.1.length none)) ((qo_10, .inr (22, [.int (nI t9.1.length), .int (nI t9.2.2.length), .ref an, .ref aw, .ref af, .ref av, .ref at_])) :: (an, .inl (G.2.2.1 3, 8, .inr (.inl nf9))) :: (aw, .inl (G.2.2.1 0, 8, .inl wf9)) :: (af, .inl (G.2.2.1 0, 10, .inl ff9)) :: (av, .inl (G.2.2.1 0, 10, .inl vf9)) :: (at_, .inl (G.2.2.1 0, 10, .inl tf9)) :: W0) (nI (cF S.1).length)) (cwV 1 hts (lw_V q1287 q1289 qs36 q66 q1290) rfl rfl rfl (by decide +kernel) ⟨lb hR1 rfl, lb hR4 rfl⟩) hW (List.mem_of_getElem? (i := 0) rfl) (ci := 20) rfl rfl rfl hl.1 rfl (lv_room (Nat.le_of_ble_eq_true rfl)) dX4_file_145 ⟨by omega, by omega⟩) hW (fun r_17 u_18 H locs h_19 hW => ?_)
              obtain ⟨rfl, rfl⟩ : r_17 = nI (cF S.1).length ∧ u_18 = _ := h_19
              have hW : pM G (MWl G ad (xr (xr (xa (xa (xa (xa (xi (xi (xi (xi (mdx (xi (xi (xi y 0 0) 3 0) 11 0) v2 lt2) 1 0) 2 (-1)) 6 (nI ((cF S.1).length + 1))) 10 (nI (S.2.1.length + 1))) 4 (va_up ((mdx (xi (xi (xi y 0 0) 3 0) 11 0) v2 lt2).2.1 4) ((cF S.1).length) (nI (cN S.1)))) 5 (va_up ((mdx (xi (xi (xi y 0 0) 3 0) 11 0) v2 lt2).2.1 5) ((cF S.1).length) (enc o))) 11 (va_up ((mdx (xi (xi (xi y 0 0) 3 0) 11 0) v2 lt2).2.1 11) S.2.1.length 4)) 12 (va_up ((mdx (xi (xi (xi y 0 0) 3 0) 11 0) v2 lt2).2.1 12) S.2.1.length 0)) 1 (va_up ((mdx (xi (xi (xi y 0 0) 3 0) 11 0) v2 lt2).2.2.1 1) ((cF S.1).length) (some qo_10))) 4 (va_up ((mdx (xi (xi (xi y 0 0) 3 0) 11 0) v2 lt2).2.2.1 4) S.2.1.length none)) ++ ((qo_10, .inr (22, [.int (nI t9.1.length), .int (nI t9.2.2.length), .ref an, .ref aw, .ref af, .ref av, .ref at_])) :: (an, .inl (G.2.2.1 3, 8, .inr (.inl nf9))) :: (aw, .inl (G.2.2.1 0, 8, .inl wf9)) :: (af, .inl (G.2.2.1 0, 10, .inl ff9)) :: (av, .inl (G.2.2.1 0, 10, .inl vf9)) :: (at_, .inl (G.2.2.1 0, 10, .inl tf9)) :: W0)) s _ _ := hW
              exact re_i hF hRt hLk hQ (by omega) (by omega) dX4_file_148 ((xr (xr (xa (xa (xa (xa (xi (xi (xi (xi (mdx (xi (xi (xi y 0 0) 3 0) 11 0) v2 lt2) 1 0) 2 (-1)) 6 (nI ((cF S.1).length + 1))) 10 (nI (S.2.1.length + 1))) 4 (va_up ((mdx (xi (xi (xi y 0 0) 3 0) 11 0) v2 lt2).2.1 4) ((cF S.1).length) (nI (cN S.1)))) 5 (va_up ((mdx (xi (xi (xi y 0 0) 3 0) 11 0) v2 lt2).2.1 5) ((cF S.1).length) (enc o))) 11 (va_up ((mdx (xi (xi (xi y 0 0) 3 0) 11 0) v2 lt2).2.1 11) S.2.1.length 4)) 12 (va_up ((mdx (xi (xi (xi y 0 0) 3 0) 11 0) v2 lt2).2.1 12) S.2.1.length 0)) 1 (va_up ((mdx (xi (xi (xi y 0 0) 3 0) 11 0) v2 lt2).2.2.1 1) ((cF S.1).length) (some qo_10))) 4 (va_up ((mdx (xi (xi (xi y 0 0) 3 0) 11 0) v2 lt2).2.2.1 4) S.2.1.length none)), [(qo_10, .inr (22, [.int (nI t9.1.length), .int (nI t9.2.2.length), .ref an, .ref aw, .ref af, .ref av, .ref at_])), (an, .inl (G.2.2.1 3, 8, .inr (.inl nf9))), (aw, .inl (G.2.2.1 0, 8, .inl wf9)), (af, .inl (G.2.2.1 0, 10, .inl ff9)), (av, .inl (G.2.2.1 0, 10, .inl vf9)), (at_, .inl (G.2.2.1 0, 10, .inl tf9))]) (by unfold fileS; rw [hi0]; dsimp only; rw [hi1]; dsimp only; rw [hrd]; dsimp only; rw [if_neg hfl]; exact ⟨rfl, ⟨m0, m1, m2, m3.mono hml, len_add (cF S.1) _, FilR.add (p := (t9, cN S.1, o)) (m5.mono hml) hmt, m6, m7.mono hml, m8, m9.mono hml, m10, rfl, ActM.add (a := (4, 0, 0, nT)) (m12.mono hml) (fun z => nomatch z), rfl, m14, rfl, rfl, rfl, m18, m19, m20, m21, m22⟩⟩) (pM.swp [(qo_10, .inr (22, [.int (nI t9.1.length), .int (nI t9.2.2.length), .ref an, .ref aw, .ref af, .ref av, .ref at_])), (an, .inl (G.2.2.1 3, 8, .inr (.inl nf9))), (aw, .inl (G.2.2.1 0, 8, .inl wf9)), (af, .inl (G.2.2.1 0, 10, .inl ff9)), (av, .inl (G.2.2.1 0, 10, .inl vf9)), (at_, .inl (G.2.2.1 0, 10, .inl tf9))] hW)
            · have hfl : (cF S.1).length = 8 := eq_eq (b := 8) c_79
              refine lv_aload_n hx hb dX4_file_82 rfl (lv_at hl 1 rfl) ?_
              refine lv_iconst (v := 3) hx hb dX4_file_83 (by decide) ?_
              refine cl_i (ru_V (As := [.int 3]) (rest := []) hF (mX4_refused l G ad (mdx (xi (xi (xi y 0 0) 3 0) 11 0) v2 lt2) ((qo_10, .inr (22, [.int (nI t9.1.length), .int (nI t9.2.2.length), .ref an, .ref aw, .ref af, .ref av, .ref at_])) :: (an, .inl (G.2.2.1 3, 8, .inr (.inl nf9))) :: (aw, .inl (G.2.2.1 0, 8, .inl wf9)) :: (af, .inl (G.2.2.1 0, 10, .inl ff9)) :: (av, .inl (G.2.2.1 0, 10, .inl vf9)) :: (at_, .inl (G.2.2.1 0, 10, .inl tf9)) :: W0) 3) (cwV 1 hts (lw_V q1255 q1257 qs29 q66 q1258) rfl rfl rfl (by decide +kernel) ⟨lb hR1 rfl, lb hR4 rfl⟩) hW (List.mem_of_getElem? (i := 0) rfl) (ci := 20) rfl rfl rfl hl.1 rfl (lv_room (Nat.le_of_ble_eq_true rfl)) dX4_file_84 ⟨by omega, by omega⟩) hW (fun r_20 u_21 H locs h_22 hW => ?_)
              obtain ⟨rfl, rfl⟩ : r_20 = (-1) ∧ u_21 = _ := h_22
              have hW : pM G (MWl G ad (xi (xi (mdx (xi (xi (xi y 0 0) 3 0) 11 0) v2 lt2) 1 3) 2 (-1)) ++ ((qo_10, .inr (22, [.int (nI t9.1.length), .int (nI t9.2.2.length), .ref an, .ref aw, .ref af, .ref av, .ref at_])) :: (an, .inl (G.2.2.1 3, 8, .inr (.inl nf9))) :: (aw, .inl (G.2.2.1 0, 8, .inl wf9)) :: (af, .inl (G.2.2.1 0, 10, .inl ff9)) :: (av, .inl (G.2.2.1 0, 10, .inl vf9)) :: (at_, .inl (G.2.2.1 0, 10, .inl tf9)) :: W0)) s _ _ := hW
              exact re_i hF hRt hLk hQ (by omega) (by omega) dX4_file_87 ((xi (xi (mdx (xi (xi (xi y 0 0) 3 0) 11 0) v2 lt2) 1 3) 2 (-1)), []) (by unfold fileS; rw [hi0]; dsimp only; rw [hi1]; dsimp only; rw [hrd]; dsimp only; rw [if_pos hfl]; exact ⟨rfl, MR.nil ⟨m0, m1, m2, m3, m4, m5, m6, m7, m8, m9, m10, m11, m12, rfl, m14, rfl, rfl, rfl, m18, m19, m20, m21, m22⟩⟩) (pM.nil (pM.drop6 hW))
        · exact absurd ((by rw [show (xi y 0 0).1 11 = nI S.2.2.2.1 from m13]; exact ixn_in hi1 (by omega) : 0 ≤ (nI k1) ∧ (nI k1) ≤ (xi y 0 0).1 11)) h_
      · obtain ⟨k0, rfl⟩ : ∃ k, o = some k := by cases o with | none => exact absurd rfl c_7 | some k => exact ⟨k, rfl⟩
        have hk0 := ho k0 rfl
        refine lv_aload_n hx hb dX4_file_10 rfl (lv_at hl 0 rfl) ?_
        refine lv_iload_n hx hb dX4_file_11 rfl (lv_at hl 1 rfl) ?_
        refine cl_i (ru_V (As := [.int (enc (some k0))]) (rest := []) hF (mX4_isFile l G ad (xi y 0 0) W0 (enc (some k0))) (cwV 1 hts (lw_V q1346 q1348 qs44 q66 q1349) rfl rfl rfl (by decide +kernel) ⟨lb hR1 rfl, lb hR4 rfl⟩) hW (List.mem_of_getElem? (i := 0) rfl) (ci := 20) rfl rfl rfl hl.1 rfl (lv_room (Nat.le_of_ble_eq_true rfl)) dX4_file_12 ⟨by omega, by omega⟩) hW (fun r_ u_ H locs h_ hW => ?_)
        have hW : pM G (MWl G ad (xi y 0 0) ++ W0) s _ _ := hW
        rcases h_ with ⟨rfl, h_⟩ | ⟨rfl, h_⟩
        · refine lv_if_ne (tgt := 24) hx hb dX4_file_15 (by decide) (fun c_15 => ?_) (fun c_15 => absurd c_15 (by decide))
          refine lv_aload_n hx hb dX4_file_24 rfl (lv_at hl 0 rfl) ?_
          refine lv_iload_n hx hb dX4_file_25 rfl (lv_at hl 2 rfl) ?_
          refine cl_i (ru_V (As := [.int (nI k1)]) (rest := []) hF (mX4_isTaped l G ad (xi y 0 0) W0 (nI k1)) (cwV 1 hts (lw_V q1259 q1261 qs30 q66 q1262) rfl rfl rfl (by decide +kernel) ⟨lb hR1 rfl, lb hR4 rfl⟩) hW (List.mem_of_getElem? (i := 0) rfl) (ci := 20) rfl rfl rfl hl.1 rfl (lv_room (Nat.le_of_ble_eq_true rfl)) dX4_file_26 ⟨by omega, by omega⟩) hW (fun r_ u_ H locs h_ hW => ?_)
          have hW : pM G (MWl G ad (xi y 0 0) ++ W0) s _ _ := hW
          rcases h_ with ⟨rfl, h_⟩ | ⟨rfl, h_⟩
          · refine lv_if_ne (tgt := 38) hx hb dX4_file_29 (by decide) (fun c_29 => ?_) (fun c_29 => absurd c_29 (by decide))
            refine lv_aload_n hx hb dX4_file_38 rfl (lv_at hl 0 rfl) ?_
            refine lv_iconst (v := 0) hx hb dX4_file_39 (by decide) ?_
            refine pM0_fault hF hW q1098 dX4_file_40 (fun H locs hW => ?_)
            have hW : pM G (MWl G ad (xi (xi y 0 0) 3 0) ++ W0) s _ _ := hW
            refine nw (ci := 22) hF hW rfl in_X6 tyX6 tyX6_ok q1037 q1061 q68 (fs := [.int 0, .int 0, .null, .null, .null, .null, .null]) (fun j hj => by match j, hj with | 0, _ => rfl | 1, _ => rfl | 2, _ => rfl | 3, _ => rfl | 4, _ => rfl | 5, _ => rfl | 6, _ => rfl) (by omega) (by omega) dX4_file_43 (fun qo_23 H hW => ?_)
            have hW := hW.asc
            have hW : pM G (MWl G ad (xi (xi y 0 0) 3 0) ++ (W0 ++ [(qo_23, .inr (22, [.int 0, .int 0, .null, .null, .null, .null, .null]))])) s _ _ := hW
            refine lv_dup hx hb dX4_file_46 rfl ?_
            have hW := pM.csa (A := MWl G ad (xi (xi y 0 0) 3 0)) (B := W0) hW
            refine cl_v (ru_IN (As := []) (rest := [.ref qo_23]) hF (mX6_init l G (MWl G ad (xi (xi y 0 0) 3 0) ++ W0) qo_23) ⟨va_cnB 0 hts (lw_meth q1064) rfl rfl rfl (hW.2.2.2.2.2.1 _ (List.mem_of_getElem? (i := 26) rfl)) (hts _ q68) (by decide +kernel) ⟨lb hR1 rfl, lb hR4 rfl⟩, rfl, hts _ q1063⟩ hW rfl rfl hl.1 rfl (lv_room (Nat.le_of_ble_eq_true rfl)) dX4_file_47 ⟨by omega, by omega⟩) hW (fun u_ H locs _ hW => ?_)
            obtain ⟨an, aw, af, av, at_⟩ := u_
            have hW := pM.rot (A := MWl G ad (xi (xi y 0 0) 3 0)) (B := W0) hW
            have hW : pM G (MWl G ad (xi (xi y 0 0) 3 0) ++ ((qo_23, .inr (22, [.int (nI nT.1.length), .int (nI nT.2.2.length), .ref an, .ref aw, .ref af, .ref av, .ref at_])) :: (an, .inl (G.2.2.1 3, 8, .inr (.inl (fun _ => 0)))) :: (aw, .inl (G.2.2.1 0, 8, .inl (fun _ => 0))) :: (af, .inl (G.2.2.1 0, 10, .inl (fun _ => 0))) :: (av, .inl (G.2.2.1 0, 10, .inl (fun _ => 0))) :: (at_, .inl (G.2.2.1 0, 10, .inl (fun _ => 0))) :: W0)) s _ _ := hW
            refine lv_astore_n (lv' := [(3, .ref qo_23), (0, .ref (ad 0)), (1, .int (enc (some k0))), (2, .int (nI k1))]) hx hb dX4_file_50 rfl hl (by decide) rfl (fun ls hl => ?_)
            refine lv_aload_n hx hb dX4_file_51 rfl (lv_at hl 1 rfl) ?_
            refine lv_aload_n hx hb dX4_file_52 rfl (lv_at hl 0 rfl) ?_
            refine lv_iload_n hx hb dX4_file_53 rfl (lv_at hl 3 rfl) ?_
            refine lv_bipush (v := 8) hx hb dX4_file_54 (by decide) ?_
            refine lv_bipush (v := 10) hx hb dX4_file_56 (by decide) ?_
            have hn : k1 ≤ 300 := by omega
            have hW : pM G (MWl G ad (mdx (xi (xi y 0 0) 3 0) (xi (xi y 0 0) 3 0).1 ((xi (xi y 0 0) 3 0).2.2.2.2.1 0)) ++ ((qo_23, .inr (22, [.int (nI nT.1.length), .int (nI nT.2.2.length), .ref an, .ref aw, .ref af, .ref av, .ref at_])) :: (an, .inl (G.2.2.1 3, 8, .inr (.inl (fun _ => 0)))) :: (aw, .inl (G.2.2.1 0, 8, .inl (fun _ => 0))) :: (af, .inl (G.2.2.1 0, 10, .inl (fun _ => 0))) :: (av, .inl (G.2.2.1 0, 10, .inl (fun _ => 0))) :: (at_, .inl (G.2.2.1 0, 10, .inl (fun _ => 0))) :: W0)) s _ _ := hW
            refine cx_v (rx_V (As := [.ref qo_23, .int (nI k1), .int 8, .int 10]) (rest := []) hF (mX4_reads l G ad (xi (xi y 0 0) 3 0) W0 (xi (xi y 0 0) 3 0).1 ((xi (xi y 0 0) 3 0).2.2.2.2.1 0) k1 hn (cW S.1) m1.1 b0 m0 hI.1.2.2.1 qo_23 an aw af av at_ (fun _ => 0) (fun _ => 0) (fun _ => 0) (fun _ => 0) (fun _ => 0) nT MHc_n 8 10 (nT_ok) (by omega) (by omega)) (cwV 4 hts (lw_V q1314 q1316 qs39 q66 q1317) rfl rfl rfl (by decide +kernel) ⟨lb hR1 rfl, lb hR4 rfl⟩) hW (List.mem_of_getElem? (i := 0) rfl) (ci := 20) rfl rfl rfl hl.1 rfl (lv_room (Nat.le_of_ble_eq_true rfl)) dX4_file_58 ⟨by omega, by omega⟩) hW (fun u_25 H locs h_26 hW => ?_) (fun u_25 H locs h_26 hW => ?_)
            · obtain ⟨e1, e2, v2, lt2⟩ := u_25
              have hrd : readS S k1 8 10 nT = .inl (e1, e2) := by unfold readS; rw [← m14]; exact h_26
              have hW : pM G (MWl G ad (mdx (xi (xi (xi (xi (xi y 0 0) 3 0) 11 0) 21 (nI e1)) 22 (nI e2)) v2 lt2) ++ W0) s _ _ := hW
              refine ca hF htab rfl rfl (by decide) q1039 (List.mem_of_getElem? (i := 39) rfl) hW (List.mem_of_getElem? (i := 20) rfl) (ci := 21) rfl ?_
              refine lv_astore (lv' := [(4, .ref (ad 20)), (3, .ref qo_23), (0, .ref (ad 0)), (1, .int (enc (some k0))), (2, .int (nI k1))]) hx hb dX4_file_64 hl (by decide) rfl (fun ls hl => ?_)
              refine lv_aload_n hx hb dX4_file_66 rfl (lv_at hl 2 rfl) ?_
              refine lv_aload hx hb dX4_file_67 (lv_at hl 0 rfl) ?_
              refine cl_i (ru_V (As := [.ref (ad 20)]) (rest := []) hF (mX4_wrong l G ad (mdx (xi (xi (xi (xi (xi y 0 0) 3 0) 11 0) 21 (nI e1)) 22 (nI e2)) v2 lt2) W0) (cwV 1 hts (lw_V q1334 q1336 qs43 q66 q1337) rfl rfl rfl (by decide +kernel) ⟨lb hR1 rfl, lb hR4 rfl⟩) hW (List.mem_of_getElem? (i := 0) rfl) (ci := 20) rfl rfl rfl hl.1 rfl (lv_room (Nat.le_of_ble_eq_true rfl)) dX4_file_69 ⟨by omega, by omega⟩) hW (fun r_ u_ H locs h_ hW => ?_)
              obtain ⟨rfl, rfl⟩ : r_ = -1 ∧ u_ = _ := h_
              have hW : pM G (MWl G ad (xi (xi (xi (mdx (xi (xi (xi (xi (xi y 0 0) 3 0) 11 0) 21 (nI e1)) 22 (nI e2)) v2 lt2) 1 4) 2 (nI e2)) 3 (nI e1)) ++ W0) s _ _ := hW
              exact re_i hF hRt hLk hQ (by omega) (by omega) dX4_file_72 ((xi (xi (xi (mdx (xi (xi (xi (xi (xi y 0 0) 3 0) 11 0) 21 (nI e1)) 22 (nI e2)) v2 lt2) 1 4) 2 (nI e2)) 3 (nI e1)), []) (by unfold fileS; rw [hi0]; dsimp only; rw [hi1]; dsimp only; rw [hrd]; exact ⟨rfl, MR.nil ⟨m0, m1, m2, m3, m4, m5, m6, m7, m8, m9, m10, m11, m12, rfl, m14, rfl, rfl, rfl, m18, m19, m20, m21, m22⟩⟩) (pM.nil (hW))
            · obtain ⟨t9, nf9, wf9, ff9, vf9, tf9, v2, lt2⟩ := u_25
              obtain ⟨hrd, hok9, ht9⟩ := h_26
              have hrd : readS S k1 8 10 nT = .inr t9 := by unfold readS; rw [← m14]; exact hrd
              have hok9 : TxOk (cW S.1).length 8 10 t9 := hok9
              have ht9 : MHc t9 nf9 wf9 ff9 vf9 tf9 := ht9
              have hW : pM G (MWl G ad (mdx (xi (xi (xi y 0 0) 3 0) 11 0) v2 lt2) ++ ((qo_23, .inr (22, [.int (nI t9.1.length), .int (nI t9.2.2.length), .ref an, .ref aw, .ref af, .ref av, .ref at_])) :: (an, .inl (G.2.2.1 3, 8, .inr (.inl nf9))) :: (aw, .inl (G.2.2.1 0, 8, .inl wf9)) :: (af, .inl (G.2.2.1 0, 10, .inl ff9)) :: (av, .inl (G.2.2.1 0, 10, .inl vf9)) :: (at_, .inl (G.2.2.1 0, 10, .inl tf9)) :: W0)) s _ _ := hW
              refine lv_goto (tgt := 73) hx hb dX4_file_61 (by decide) ?_
              refine lv_aload_n hx hb dX4_file_73 rfl (lv_at hl 1 rfl) ?_
              refine gM0_files hF hW q1101 (v := nI (cF S.1).length) (m4) dX4_file_74 ?_
              refine lv_bipush (v := 8) hx hb dX4_file_77 (by decide) ?_
              refine lv_icmp_ne (tgt := 88) hx hb dX4_file_79 (by decide) (fun c_79 => ?_) (fun c_79 => ?_)
              · have hfl : ¬ (cF S.1).length = 8 := fun z => c_79 (by rw [z]; rfl)
                have hml : ∀ z ∈ T, z ∈ T ++ [(qo_23, .inr (22, [.int (nI t9.1.length), .int (nI t9.2.2.length), .ref an, .ref aw, .ref af, .ref av, .ref at_])), (an, .inl (G.2.2.1 3, 8, .inr (.inl nf9))), (aw, .inl (G.2.2.1 0, 8, .inl wf9)), (af, .inl (G.2.2.1 0, 10, .inl ff9)), (av, .inl (G.2.2.1 0, 10, .inl vf9)), (at_, .inl (G.2.2.1 0, 10, .inl tf9))] := fun z h => List.mem_append_left _ h
                have hmt : MT G (T ++ [(qo_23, .inr (22, [.int (nI t9.1.length), .int (nI t9.2.2.length), .ref an, .ref aw, .ref af, .ref av, .ref at_])), (an, .inl (G.2.2.1 3, 8, .inr (.inl nf9))), (aw, .inl (G.2.2.1 0, 8, .inl wf9)), (af, .inl (G.2.2.1 0, 10, .inl ff9)), (av, .inl (G.2.2.1 0, 10, .inl vf9)), (at_, .inl (G.2.2.1 0, 10, .inl tf9))]) qo_23 t9 := ⟨an, aw, af, av, at_, nf9, wf9, ff9, vf9, tf9, List.mem_append_right _ (List.mem_of_getElem? (i := 0) rfl), List.mem_append_right _ (List.mem_of_getElem? (i := 1) rfl), List.mem_append_right _ (List.mem_of_getElem? (i := 2) rfl), List.mem_append_right _ (List.mem_of_getElem? (i := 3) rfl), List.mem_append_right _ (List.mem_of_getElem? (i := 4) rfl), List.mem_append_right _ (List.mem_of_getElem? (i := 5) rfl), ht9⟩
                refine lv_aload_n hx hb dX4_file_88 rfl (lv_at hl 1 rfl) ?_
                refine gM0_file hF hW q1108 dX4_file_89 ?_
                refine lv_aload_n hx hb dX4_file_92 rfl (lv_at hl 1 rfl) ?_
                refine gM0_files hF hW q1101 (v := nI (cF S.1).length) (m4) dX4_file_93 ?_
                refine lv_aload_n hx hb dX4_file_96 rfl (lv_at hl 0 rfl) ?_
                refine sM4 hF hW (ms_r (List.mem_of_getElem? (i := 0) rfl)) (ci := 22) rfl rfl (j := (cF S.1).length) (rfl) (by omega) dX4_file_97 (fun H locs hW => ?_)
                have hW : pM G (MWl G ad (xr (mdx (xi (xi (xi y 0 0) 3 0) 11 0) v2 lt2) 1 (va_up ((mdx (xi (xi (xi y 0 0) 3 0) 11 0) v2 lt2).2.2.1 1) ((cF S.1).length) (some qo_23))) ++ ((qo_23, .inr (22, [.int (nI t9.1.length), .int (nI t9.2.2.length), .ref an, .ref aw, .ref af, .ref av, .ref at_])) :: (an, .inl (G.2.2.1 3, 8, .inr (.inl nf9))) :: (aw, .inl (G.2.2.1 0, 8, .inl wf9)) :: (af, .inl (G.2.2.1 0, 10, .inl ff9)) :: (av, .inl (G.2.2.1 0, 10, .inl vf9)) :: (at_, .inl (G.2.2.1 0, 10, .inl tf9)) :: W0)) s _ _ := hW
                refine lv_aload_n hx hb dX4_file_98 rfl (lv_at hl 1 rfl) ?_
                refine gM0_fileDay hF hW q1114 dX4_file_99 ?_
                refine lv_aload_n hx hb dX4_file_102 rfl (lv_at hl 1 rfl) ?_
                refine gM0_files hF hW q1101 (v := nI (cF S.1).length) (m4) dX4_file_103 ?_
                refine lv_aload_n hx hb dX4_file_106 rfl (lv_at hl 1 rfl) ?_
                refine gM0_now hF hW q1104 (v := nI (cN S.1)) (m10) dX4_file_107 ?_
                refine sM10 hF hW (j := (cF S.1).length) (rfl) (by omega) dX4_file_110 (fun H locs hW => ?_)
                have hW : pM G (MWl G ad (xr (xa (mdx (xi (xi (xi y 0 0) 3 0) 11 0) v2 lt2) 4 (va_up ((mdx (xi (xi (xi y 0 0) 3 0) 11 0) v2 lt2).2.1 4) ((cF S.1).length) (nI (cN S.1)))) 1 (va_up ((mdx (xi (xi (xi y 0 0) 3 0) 11 0) v2 lt2).2.2.1 1) ((cF S.1).length) (some qo_23))) ++ ((qo_23, .inr (22, [.int (nI t9.1.length), .int (nI t9.2.2.length), .ref an, .ref aw, .ref af, .ref av, .ref at_])) :: (an, .inl (G.2.2.1 3, 8, .inr (.inl nf9))) :: (aw, .inl (G.2.2.1 0, 8, .inl wf9)) :: (af, .inl (G.2.2.1 0, 10, .inl ff9)) :: (av, .inl (G.2.2.1 0, 10, .inl vf9)) :: (at_, .inl (G.2.2.1 0, 10, .inl tf9)) :: W0)) s _ _ := hW
                refine lv_aload_n hx hb dX4_file_111 rfl (lv_at hl 1 rfl) ?_
                refine gM0_fileBack hF hW q1115 dX4_file_112 ?_
                refine lv_aload_n hx hb dX4_file_115 rfl (lv_at hl 1 rfl) ?_
                refine gM0_files hF hW q1101 (v := nI (cF S.1).length) (m4) dX4_file_116 ?_
                refine lv_iload_n hx hb dX4_file_119 rfl (lv_at hl 2 rfl) ?_
                refine sM11 hF hW (j := (cF S.1).length) (rfl) (by omega) dX4_file_120 (fun H locs hW => ?_)
                have hW : pM G (MWl G ad (xr (xa (xa (mdx (xi (xi (xi y 0 0) 3 0) 11 0) v2 lt2) 4 (va_up ((mdx (xi (xi (xi y 0 0) 3 0) 11 0) v2 lt2).2.1 4) ((cF S.1).length) (nI (cN S.1)))) 5 (va_up ((mdx (xi (xi (xi y 0 0) 3 0) 11 0) v2 lt2).2.1 5) ((cF S.1).length) (enc (some k0)))) 1 (va_up ((mdx (xi (xi (xi y 0 0) 3 0) 11 0) v2 lt2).2.2.1 1) ((cF S.1).length) (some qo_23))) ++ ((qo_23, .inr (22, [.int (nI t9.1.length), .int (nI t9.2.2.length), .ref an, .ref aw, .ref af, .ref av, .ref at_])) :: (an, .inl (G.2.2.1 3, 8, .inr (.inl nf9))) :: (aw, .inl (G.2.2.1 0, 8, .inl wf9)) :: (af, .inl (G.2.2.1 0, 10, .inl ff9)) :: (av, .inl (G.2.2.1 0, 10, .inl vf9)) :: (at_, .inl (G.2.2.1 0, 10, .inl tf9)) :: W0)) s _ _ := hW
                refine lv_aload_n hx hb dX4_file_121 rfl (lv_at hl 1 rfl) ?_
                refine lv_iconst (v := 4) hx hb dX4_file_122 (by decide) ?_
                refine lv_iconst (v := 0) hx hb dX4_file_123 (by decide) ?_
                refine lv_null hx hb dX4_file_124 ?_
                refine cl_v (ru_V (As := [.int 4, .int 0, .null]) (rest := []) hF (mX4_act_n l G ad (xr (xa (xa (mdx (xi (xi (xi y 0 0) 3 0) 11 0) v2 lt2) 4 (va_up ((mdx (xi (xi (xi y 0 0) 3 0) 11 0) v2 lt2).2.1 4) ((cF S.1).length) (nI (cN S.1)))) 5 (va_up ((mdx (xi (xi (xi y 0 0) 3 0) 11 0) v2 lt2).2.1 5) ((cF S.1).length) (enc (some k0)))) 1 (va_up ((mdx (xi (xi (xi y 0 0) 3 0) 11 0) v2 lt2).2.2.1 1) ((cF S.1).length) (some qo_23))) ((qo_23, .inr (22, [.int (nI t9.1.length), .int (nI t9.2.2.length), .ref an, .ref aw, .ref af, .ref av, .ref at_])) :: (an, .inl (G.2.2.1 3, 8, .inr (.inl nf9))) :: (aw, .inl (G.2.2.1 0, 8, .inl wf9)) :: (af, .inl (G.2.2.1 0, 10, .inl ff9)) :: (av, .inl (G.2.2.1 0, 10, .inl vf9)) :: (at_, .inl (G.2.2.1 0, 10, .inl tf9)) :: W0) S.2.1.length (by omega) (m11) 4 0) (cwV 3 hts (lw_V q1283 q1285 qs35 q66 q1286) rfl rfl rfl (by decide +kernel) ⟨lb hR1 rfl, lb hR4 rfl⟩) hW (List.mem_of_getElem? (i := 0) rfl) (ci := 20) rfl rfl rfl hl.1 rfl (lv_room (Nat.le_of_ble_eq_true rfl)) dX4_file_125 ⟨by omega, by omega⟩) hW (fun u_28 H locs h_29 hW => ?_)
                obtain rfl : u_28 = _ := h_29
                have hW : pM G (MWl G ad (xr (xr (xa (xa (xa (xa (xi (mdx (xi (xi (xi y 0 0) 3 0) 11 0) v2 lt2) 10 (nI (S.2.1.length + 1))) 4 (va_up ((mdx (xi (xi (xi y 0 0) 3 0) 11 0) v2 lt2).2.1 4) ((cF S.1).length) (nI (cN S.1)))) 5 (va_up ((mdx (xi (xi (xi y 0 0) 3 0) 11 0) v2 lt2).2.1 5) ((cF S.1).length) (enc (some k0)))) 11 (va_up ((mdx (xi (xi (xi y 0 0) 3 0) 11 0) v2 lt2).2.1 11) S.2.1.length 4)) 12 (va_up ((mdx (xi (xi (xi y 0 0) 3 0) 11 0) v2 lt2).2.1 12) S.2.1.length 0)) 1 (va_up ((mdx (xi (xi (xi y 0 0) 3 0) 11 0) v2 lt2).2.2.1 1) ((cF S.1).length) (some qo_23))) 4 (va_up ((mdx (xi (xi (xi y 0 0) 3 0) 11 0) v2 lt2).2.2.1 4) S.2.1.length none)) ++ ((qo_23, .inr (22, [.int (nI t9.1.length), .int (nI t9.2.2.length), .ref an, .ref aw, .ref af, .ref av, .ref at_])) :: (an, .inl (G.2.2.1 3, 8, .inr (.inl nf9))) :: (aw, .inl (G.2.2.1 0, 8, .inl wf9)) :: (af, .inl (G.2.2.1 0, 10, .inl ff9)) :: (av, .inl (G.2.2.1 0, 10, .inl vf9)) :: (at_, .inl (G.2.2.1 0, 10, .inl tf9)) :: W0)) s _ _ := hW
                refine lv_aload_n hx hb dX4_file_128 rfl (lv_at hl 1 rfl) ?_
                refine lv_dup hx hb dX4_file_129 rfl ?_
                refine gM0_files hF hW q1101 (v := nI (cF S.1).length) (m4) dX4_file_130 ?_
                refine lv_iconst (v := 1) hx hb dX4_file_133 (by decide) ?_
                refine lv_iadd hx hb dX4_file_134 ?_
                refine lv_eqi (show (nI (cF S.1).length) + 1 = nI ((cF S.1).length + 1) from nI_add ((cF S.1).length) 1) ?_
                refine pM0_files hF hW q1101 dX4_file_135 (fun H locs hW => ?_)
                have hW : pM G (MWl G ad (xr (xr (xa (xa (xa (xa (xi (xi (mdx (xi (xi (xi y 0 0) 3 0) 11 0) v2 lt2) 6 (nI ((cF S.1).length + 1))) 10 (nI (S.2.1.length + 1))) 4 (va_up ((mdx (xi (xi (xi y 0 0) 3 0) 11 0) v2 lt2).2.1 4) ((cF S.1).length) (nI (cN S.1)))) 5 (va_up ((mdx (xi (xi (xi y 0 0) 3 0) 11 0) v2 lt2).2.1 5) ((cF S.1).length) (enc (some k0)))) 11 (va_up ((mdx (xi (xi (xi y 0 0) 3 0) 11 0) v2 lt2).2.1 11) S.2.1.length 4)) 12 (va_up ((mdx (xi (xi (xi y 0 0) 3 0) 11 0) v2 lt2).2.1 12) S.2.1.length 0)) 1 (va_up ((mdx (xi (xi (xi y 0 0) 3 0) 11 0) v2 lt2).2.2.1 1) ((cF S.1).length) (some qo_23))) 4 (va_up ((mdx (xi (xi (xi y 0 0) 3 0) 11 0) v2 lt2).2.2.1 4) S.2.1.length none)) ++ ((qo_23, .inr (22, [.int (nI t9.1.length), .int (nI t9.2.2.length), .ref an, .ref aw, .ref af, .ref av, .ref at_])) :: (an, .inl (G.2.2.1 3, 8, .inr (.inl nf9))) :: (aw, .inl (G.2.2.1 0, 8, .inl wf9)) :: (af, .inl (G.2.2.1 0, 10, .inl ff9)) :: (av, .inl (G.2.2.1 0, 10, .inl vf9)) :: (at_, .inl (G.2.2.1 0, 10, .inl tf9)) :: W0)) s _ _ := hW
                refine lv_aload_n hx hb dX4_file_138 rfl (lv_at hl 1 rfl) ?_
                refine lv_aload_n hx hb dX4_file_139 rfl (lv_at hl 1 rfl) ?_
                refine gM0_files hF hW q1101 (v := nI ((cF S.1).length + 1)) (rfl) dX4_file_140 ?_
                refine lv_iconst (v := 1) hx hb dX4_file_143 (by decide) ?_
                refine lv_isub hx hb dX4_file_144 ?_
                refine lv_eqi (show (nI ((cF S.1).length + 1)) - 1 = nI (cF S.1).length from nI_m1 _) ?_
                refine cl_i (ru_V (As := [.int (nI (cF S.1).length)]) (rest := []) hF (mX4_done l G ad (xr (xr (xa (xa (xa (xa (xi (xi (mdx (xi (xi (xi y 0 0) 3 0) 11 0) v2 lt2) 6 (nI ((cF S.1).length + 1))) 10 (nI (S.2.1.length + 1))) 4 (va_up ((mdx (xi (xi (xi y 0 0) 3 0) 11 0) v2 lt2).2.1 4) ((cF S.1).length) (nI (cN S.1)))) 5 (va_up ((mdx (xi (xi (xi y 0 0) 3 0) 11 0) v2 lt2).2.1 5) ((cF S.1).length) (enc (some k0)))) 11 (va_up ((mdx (xi (xi (xi y 0 0) 3 0) 11 0) v2 lt2).2.1 11) S.2.1.length 4)) 12 (va_up ((mdx (xi (xi (xi y 0 0) 3 0) 11 0) v2 lt2).2.1 12) S.2.1.length 0)) 1 (va_up ((mdx (xi (xi (xi y 0 0) 3 0) 11 0) v2 lt2).2.2.1 1) ((cF S.1).length) (some qo_23))) 4 (va_up ((mdx (xi (xi (xi y 0 0) 3 0) 11 0) v2 lt2).2.2.1 4) S.2.1.length none)) ((qo_23, .inr (22, [.int (nI t9.1.length), .int (nI t9.2.2.length), .ref an, .ref aw, .ref af, .ref av, .ref at_])) :: (an, .inl (G.2.2.1 3, 8, .inr (.inl nf9))) :: (aw, .inl (G.2.2.1 0, 8, .inl wf9)) :: (af, .inl (G.2.2.1 0, 10, .inl ff9)) :: (av, .inl (G.2.2.1 0, 10, .inl vf9)) :: (at_, .inl (G.2.2.1 0, 10, .inl tf9)) :: W0) (nI (cF S.1).length)) (cwV 1 hts (lw_V q1287 q1289 qs36 q66 q1290) rfl rfl rfl (by decide +kernel) ⟨lb hR1 rfl, lb hR4 rfl⟩) hW (List.mem_of_getElem? (i := 0) rfl) (ci := 20) rfl rfl rfl hl.1 rfl (lv_room (Nat.le_of_ble_eq_true rfl)) dX4_file_145 ⟨by omega, by omega⟩) hW (fun r_30 u_31 H locs h_32 hW => ?_)
                obtain ⟨rfl, rfl⟩ : r_30 = nI (cF S.1).length ∧ u_31 = _ := h_32
                have hW : pM G (MWl G ad (xr (xr (xa (xa (xa (xa (xi (xi (xi (xi (mdx (xi (xi (xi y 0 0) 3 0) 11 0) v2 lt2) 1 0) 2 (-1)) 6 (nI ((cF S.1).length + 1))) 10 (nI (S.2.1.length + 1))) 4 (va_up ((mdx (xi (xi (xi y 0 0) 3 0) 11 0) v2 lt2).2.1 4) ((cF S.1).length) (nI (cN S.1)))) 5 (va_up ((mdx (xi (xi (xi y 0 0) 3 0) 11 0) v2 lt2).2.1 5) ((cF S.1).length) (enc (some k0)))) 11 (va_up ((mdx (xi (xi (xi y 0 0) 3 0) 11 0) v2 lt2).2.1 11) S.2.1.length 4)) 12 (va_up ((mdx (xi (xi (xi y 0 0) 3 0) 11 0) v2 lt2).2.1 12) S.2.1.length 0)) 1 (va_up ((mdx (xi (xi (xi y 0 0) 3 0) 11 0) v2 lt2).2.2.1 1) ((cF S.1).length) (some qo_23))) 4 (va_up ((mdx (xi (xi (xi y 0 0) 3 0) 11 0) v2 lt2).2.2.1 4) S.2.1.length none)) ++ ((qo_23, .inr (22, [.int (nI t9.1.length), .int (nI t9.2.2.length), .ref an, .ref aw, .ref af, .ref av, .ref at_])) :: (an, .inl (G.2.2.1 3, 8, .inr (.inl nf9))) :: (aw, .inl (G.2.2.1 0, 8, .inl wf9)) :: (af, .inl (G.2.2.1 0, 10, .inl ff9)) :: (av, .inl (G.2.2.1 0, 10, .inl vf9)) :: (at_, .inl (G.2.2.1 0, 10, .inl tf9)) :: W0)) s _ _ := hW
                exact re_i hF hRt hLk hQ (by omega) (by omega) dX4_file_148 ((xr (xr (xa (xa (xa (xa (xi (xi (xi (xi (mdx (xi (xi (xi y 0 0) 3 0) 11 0) v2 lt2) 1 0) 2 (-1)) 6 (nI ((cF S.1).length + 1))) 10 (nI (S.2.1.length + 1))) 4 (va_up ((mdx (xi (xi (xi y 0 0) 3 0) 11 0) v2 lt2).2.1 4) ((cF S.1).length) (nI (cN S.1)))) 5 (va_up ((mdx (xi (xi (xi y 0 0) 3 0) 11 0) v2 lt2).2.1 5) ((cF S.1).length) (enc (some k0)))) 11 (va_up ((mdx (xi (xi (xi y 0 0) 3 0) 11 0) v2 lt2).2.1 11) S.2.1.length 4)) 12 (va_up ((mdx (xi (xi (xi y 0 0) 3 0) 11 0) v2 lt2).2.1 12) S.2.1.length 0)) 1 (va_up ((mdx (xi (xi (xi y 0 0) 3 0) 11 0) v2 lt2).2.2.1 1) ((cF S.1).length) (some qo_23))) 4 (va_up ((mdx (xi (xi (xi y 0 0) 3 0) 11 0) v2 lt2).2.2.1 4) S.2.1.length none)), [(qo_23, .inr (22, [.int (nI t9.1.length), .int (nI t9.2.2.length), .ref an, .ref aw, .ref af, .ref av, .ref at_])), (an, .inl (G.2.2.1 3, 8, .inr (.inl nf9))), (aw, .inl (G.2.2.1 0, 8, .inl wf9)), (af, .inl (G.2.2.1 0, 10, .inl ff9)), (av, .inl (G.2.2.1 0, 10, .inl vf9)), (at_, .inl (G.2.2.1 0, 10, .inl tf9))]) (by unfold fileS; rw [hi0]; dsimp only; rw [hi1]; dsimp only; rw [hrd]; dsimp only; rw [if_neg hfl]; exact ⟨rfl, ⟨m0, m1, m2, m3.mono hml, len_add (cF S.1) _, FilR.add (p := (t9, cN S.1, (some k0))) (m5.mono hml) hmt, m6, m7.mono hml, m8, m9.mono hml, m10, rfl, ActM.add (a := (4, 0, 0, nT)) (m12.mono hml) (fun z => nomatch z), rfl, m14, rfl, rfl, rfl, m18, m19, m20, m21, m22⟩⟩) (pM.swp [(qo_23, .inr (22, [.int (nI t9.1.length), .int (nI t9.2.2.length), .ref an, .ref aw, .ref af, .ref av, .ref at_])), (an, .inl (G.2.2.1 3, 8, .inr (.inl nf9))), (aw, .inl (G.2.2.1 0, 8, .inl wf9)), (af, .inl (G.2.2.1 0, 10, .inl ff9)), (av, .inl (G.2.2.1 0, 10, .inl vf9)), (at_, .inl (G.2.2.1 0, 10, .inl tf9))] hW)
              · have hfl : (cF S.1).length = 8 := eq_eq (b := 8) c_79
                refine lv_aload_n hx hb dX4_file_82 rfl (lv_at hl 1 rfl) ?_
                refine lv_iconst (v := 3) hx hb dX4_file_83 (by decide) ?_
                refine cl_i (ru_V (As := [.int 3]) (rest := []) hF (mX4_refused l G ad (mdx (xi (xi (xi y 0 0) 3 0) 11 0) v2 lt2) ((qo_23, .inr (22, [.int (nI t9.1.length), .int (nI t9.2.2.length), .ref an, .ref aw, .ref af, .ref av, .ref at_])) :: (an, .inl (G.2.2.1 3, 8, .inr (.inl nf9))) :: (aw, .inl (G.2.2.1 0, 8, .inl wf9)) :: (af, .inl (G.2.2.1 0, 10, .inl ff9)) :: (av, .inl (G.2.2.1 0, 10, .inl vf9)) :: (at_, .inl (G.2.2.1 0, 10, .inl tf9)) :: W0) 3) (cwV 1 hts (lw_V q1255 q1257 qs29 q66 q1258) rfl rfl rfl (by decide +kernel) ⟨lb hR1 rfl, lb hR4 rfl⟩) hW (List.mem_of_getElem? (i := 0) rfl) (ci := 20) rfl rfl rfl hl.1 rfl (lv_room (Nat.le_of_ble_eq_true rfl)) dX4_file_84 ⟨by omega, by omega⟩) hW (fun r_33 u_34 H locs h_35 hW => ?_)
                obtain ⟨rfl, rfl⟩ : r_33 = (-1) ∧ u_34 = _ := h_35
                have hW : pM G (MWl G ad (xi (xi (mdx (xi (xi (xi y 0 0) 3 0) 11 0) v2 lt2) 1 3) 2 (-1)) ++ ((qo_23, .inr (22, [.int (nI t9.1.length), .int (nI t9.2.2.length), .ref an, .ref aw, .ref af, .ref av, .ref at_])) :: (an, .inl (G.2.2.1 3, 8, .inr (.inl nf9))) :: (aw, .inl (G.2.2.1 0, 8, .inl wf9)) :: (af, .inl (G.2.2.1 0, 10, .inl ff9)) :: (av, .inl (G.2.2.1 0, 10, .inl vf9)) :: (at_, .inl (G.2.2.1 0, 10, .inl tf9)) :: W0)) s _ _ := hW
                exact re_i hF hRt hLk hQ (by omega) (by omega) dX4_file_87 ((xi (xi (mdx (xi (xi (xi y 0 0) 3 0) 11 0) v2 lt2) 1 3) 2 (-1)), []) (by unfold fileS; rw [hi0]; dsimp only; rw [hi1]; dsimp only; rw [hrd]; dsimp only; rw [if_pos hfl]; exact ⟨rfl, MR.nil ⟨m0, m1, m2, m3, m4, m5, m6, m7, m8, m9, m10, m11, m12, rfl, m14, rfl, rfl, rfl, m18, m19, m20, m21, m22⟩⟩) (pM.nil (pM.drop6 hW))
          · exact absurd ((by rw [show (xi y 0 0).1 11 = nI S.2.2.2.1 from m13]; exact ixn_in hi1 (by omega) : 0 ≤ (nI k1) ∧ (nI k1) ≤ (xi y 0 0).1 11)) h_
        · exact absurd ((by rw [show (xi y 0 0).1 6 = nI (cF S.1).length from m4]; exact ix_in (ixo_s hi0).1 : 0 ≤ enc (some k0) ∧ enc (some k0) < (xi y 0 0).1 6)) h_

set_option maxRecDepth 100000 in
set_option maxHeartbeats 16000000 in
theorem mX4_claim (l : Launch) (G : pG) (ad : Nat → Nat) (y : XV) (W0 T : va_W) (hT : ∀ q ∈ T, q ∈ W0) (S : AS) (n9 : Nat) (hS : SOk n9 S) (hn9 : n9 ≤ 64) (hMR : MR G T y S) (a0 a1 a2 : Int32) : vx_Met l yX4_claim (wsW_ yX4_claim cX4_claim 6 (some .int) [((86 : Nat), (97 : Nat), (100 : Nat), (75 : Nat))]) ({ frames := 22, cells := 6, slots := 60, locals := 1045 } : Room) (va_Pc [.ref (ad 0), .int a0, .int a1, .int a2] (fun U => pW G (MWl G ad y ++ W0) U)) (va_Qi (fun r (u : XV × va_W) => r = (claimS S a0 a1 a2).2 ∧ MR G (T ++ u.2) u.1 (claimS S a0 a1 a2).1) (fun (u : XV × va_W) t9 => pW G (MWl G ad u.1 ++ (W0 ++ u.2)) t9) (pA G)) (fun _ _ _ _ => False) 6 60 (pA G) := by
  refine mh (by decide) (Nat.le_of_ble_eq_true rfl) ?_
  intro pp ee R s m below meth c ls Q hF hRt hLk htab hR hQ hW hl
  have hx := hF.1
  have hb := hF.2.1
  have hts := hF.2.2.2.2
  have hR1 : R.frames = 22 := by rw [hR]
  have hR2 : R.cells = 6 := by rw [hR]
  have hR3 : R.slots = 60 := by rw [hR]
  have hR4 : R.locals = 1045 := by rw [hR]
  have hl : lv_has ls 6 [(0, .ref (ad 0)), (1, .int a0), (2, .int a1), (3, .int a2)] := hl
  have hW : pM G (MWl G ad y ++ W0) s s.heap [] := hW
  obtain ⟨m0, m1, m2, m3, m4, m5, m6, m7, m8, m9, m10, m11, m12, m13, m14, m15, m16, m17, m18, m19, m20, m21, m22⟩ := hMR
  have hI := hS.inv
  have b0 := hI.1.1
  have b1 := hI.2.1.1
  have b2 := hI.2.2.1.1
  have b3 := hI.2.2.2.1.1
  have b4 := hI.2.2.2.2.1.1
  have b5 := hI.2.2.2.2.2
  have b6 := hS.2.1
  have b7 := hS.2.2.1
  have b8 := hS.2.2.2.1
  have b9 := hS.2.2.2.2.1
  cases hi0 : ix a0 (cF S.1).length with
  | none =>
    refine lv_aload_n hx hb dX4_claim_0 rfl (lv_at hl 0 rfl) ?_
    refine lv_iconst (v := 0) hx hb dX4_claim_1 (by decide) ?_
    refine pM0_thrown hF hW q1095 dX4_claim_2 (fun H locs hW => ?_)
    have hW : pM G (MWl G ad (xi y 0 0) ++ W0) s _ _ := hW
    refine lv_aload_n hx hb dX4_claim_5 rfl (lv_at hl 0 rfl) ?_
    refine lv_iload_n hx hb dX4_claim_6 rfl (lv_at hl 1 rfl) ?_
    refine cl_i (ru_V (As := [.int a0]) (rest := []) hF (mX4_isFile l G ad (xi y 0 0) W0 a0) (cwV 1 hts (lw_V q1346 q1348 qs44 q66 q1349) rfl rfl rfl (by decide +kernel) ⟨lb hR1 rfl, lb hR4 rfl⟩) hW (List.mem_of_getElem? (i := 0) rfl) (ci := 20) rfl rfl rfl hl.1 rfl (lv_room (Nat.le_of_ble_eq_true rfl)) dX4_claim_7 ⟨by omega, by omega⟩) hW (fun r_ u_ H locs h_ hW => ?_)
    have hW : pM G (MWl G ad (xi y 0 0) ++ W0) s _ _ := hW
    rcases h_ with ⟨rfl, h_⟩ | ⟨rfl, h_⟩
    · exact absurd h_ (fun z => ix_no hi0 (by rw [show (xi y 0 0).1 6 = nI (cF S.1).length from m4] at z; exact z))
    · refine lv_if_eq (tgt := 36) hx hb dX4_claim_10 (by decide) (fun c_10 => ?_) (fun c_10 => absurd c_10 (by decide))
      refine lv_aload_n hx hb dX4_claim_36 rfl (lv_at hl 0 rfl) ?_
      refine lv_iconst (v := 1) hx hb dX4_claim_37 (by decide) ?_
      refine cl_i (ru_V (As := [.int 1]) (rest := []) hF (mX4_refused l G ad (xi y 0 0) W0 1) (cwV 1 hts (lw_V q1255 q1257 qs29 q66 q1258) rfl rfl rfl (by decide +kernel) ⟨lb hR1 rfl, lb hR4 rfl⟩) hW (List.mem_of_getElem? (i := 0) rfl) (ci := 20) rfl rfl rfl hl.1 rfl (lv_room (Nat.le_of_ble_eq_true rfl)) dX4_claim_38 ⟨by omega, by omega⟩) hW (fun r_1 u_2 H locs h_3 hW => ?_)
      obtain ⟨rfl, rfl⟩ : r_1 = (-1) ∧ u_2 = _ := h_3
      have hW : pM G (MWl G ad (xi (xi (xi y 0 0) 1 1) 2 (-1)) ++ W0) s _ _ := hW
      exact re_i hF hRt hLk hQ (by omega) (by omega) dX4_claim_41 ((xi (xi (xi y 0 0) 1 1) 2 (-1)), []) (by unfold claimS; rw [hi0]; exact ⟨rfl, MR.nil ⟨m0, m1, m2, m3, m4, m5, m6, m7, m8, m9, m10, m11, m12, m13, m14, rfl, m16, rfl, m18, m19, m20, m21, m22⟩⟩) (pM.nil (hW))
  | some k0 =>
    obtain ⟨hk0, rfl⟩ := ix_some hi0 (by omega)
    cases hio : ixo a1 (cC S.1).length with
    | none =>
      refine lv_aload_n hx hb dX4_claim_0 rfl (lv_at hl 0 rfl) ?_
      refine lv_iconst (v := 0) hx hb dX4_claim_1 (by decide) ?_
      refine pM0_thrown hF hW q1095 dX4_claim_2 (fun H locs hW => ?_)
      have hW : pM G (MWl G ad (xi y 0 0) ++ W0) s _ _ := hW
      refine lv_aload_n hx hb dX4_claim_5 rfl (lv_at hl 0 rfl) ?_
      refine lv_iload_n hx hb dX4_claim_6 rfl (lv_at hl 1 rfl) ?_
      refine cl_i (ru_V (As := [.int (nI k0)]) (rest := []) hF (mX4_isFile l G ad (xi y 0 0) W0 (nI k0)) (cwV 1 hts (lw_V q1346 q1348 qs44 q66 q1349) rfl rfl rfl (by decide +kernel) ⟨lb hR1 rfl, lb hR4 rfl⟩) hW (List.mem_of_getElem? (i := 0) rfl) (ci := 20) rfl rfl rfl hl.1 rfl (lv_room (Nat.le_of_ble_eq_true rfl)) dX4_claim_7 ⟨by omega, by omega⟩) hW (fun r_ u_ H locs h_ hW => ?_)
      have hW : pM G (MWl G ad (xi y 0 0) ++ W0) s _ _ := hW
      rcases h_ with ⟨rfl, h_⟩ | ⟨rfl, h_⟩
      · refine lv_if_eq (tgt := 36) hx hb dX4_claim_10 (by decide) (fun c_10 => absurd c_10 (by decide)) (fun c_10 => ?_)
        refine lv_iload_n hx hb dX4_claim_13 rfl (lv_at hl 2 rfl) ?_
        refine lv_iconst (v := (-1)) hx hb dX4_claim_14 (by decide) ?_
        refine lv_icmp_eq (tgt := 42) hx hb dX4_claim_15 (by decide) (fun c_15 => absurd c_15 (ixo_no hio).1) (fun c_15 => ?_)
        refine lv_aload_n hx hb dX4_claim_18 rfl (lv_at hl 0 rfl) ?_
        refine lv_iload_n hx hb dX4_claim_19 rfl (lv_at hl 2 rfl) ?_
        refine cl_i (ru_V (As := [.int a1]) (rest := []) hF (mX4_isClaim l G ad (xi y 0 0) W0 a1) (cwV 1 hts (lw_V q1354 q1356 qs45 q66 q1357) rfl rfl rfl (by decide +kernel) ⟨lb hR1 rfl, lb hR4 rfl⟩) hW (List.mem_of_getElem? (i := 0) rfl) (ci := 20) rfl rfl rfl hl.1 rfl (lv_room (Nat.le_of_ble_eq_true rfl)) dX4_claim_20 ⟨by omega, by omega⟩) hW (fun r_ u_ H locs h_ hW => ?_)
        have hW : pM G (MWl G ad (xi y 0 0) ++ W0) s _ _ := hW
        rcases h_ with ⟨rfl, h_⟩ | ⟨rfl, h_⟩
        · exact absurd h_ (fun z => ix_no (ixo_no hio).2 (by rw [show (xi y 0 0).1 7 = nI (cC S.1).length from m8] at z; exact z))
        · refine lv_if_eq (tgt := 36) hx hb dX4_claim_23 (by decide) (fun c_23 => ?_) (fun c_23 => absurd c_23 (by decide))
          refine lv_aload_n hx hb dX4_claim_36 rfl (lv_at hl 0 rfl) ?_
          refine lv_iconst (v := 1) hx hb dX4_claim_37 (by decide) ?_
          refine cl_i (ru_V (As := [.int 1]) (rest := []) hF (mX4_refused l G ad (xi y 0 0) W0 1) (cwV 1 hts (lw_V q1255 q1257 qs29 q66 q1258) rfl rfl rfl (by decide +kernel) ⟨lb hR1 rfl, lb hR4 rfl⟩) hW (List.mem_of_getElem? (i := 0) rfl) (ci := 20) rfl rfl rfl hl.1 rfl (lv_room (Nat.le_of_ble_eq_true rfl)) dX4_claim_38 ⟨by omega, by omega⟩) hW (fun r_4 u_5 H locs h_6 hW => ?_)
          obtain ⟨rfl, rfl⟩ : r_4 = (-1) ∧ u_5 = _ := h_6
          have hW : pM G (MWl G ad (xi (xi (xi y 0 0) 1 1) 2 (-1)) ++ W0) s _ _ := hW
          exact re_i hF hRt hLk hQ (by omega) (by omega) dX4_claim_41 ((xi (xi (xi y 0 0) 1 1) 2 (-1)), []) (by unfold claimS; rw [hi0, hio]; exact ⟨rfl, MR.nil ⟨m0, m1, m2, m3, m4, m5, m6, m7, m8, m9, m10, m11, m12, m13, m14, rfl, m16, rfl, m18, m19, m20, m21, m22⟩⟩) (pM.nil (hW))
      · exact absurd ((by rw [show (xi y 0 0).1 6 = nI (cF S.1).length from m4]; exact ix_in hi0 : 0 ≤ (nI k0) ∧ (nI k0) < (xi y 0 0).1 6)) h_
    | some o =>
      obtain ⟨rfl, ho⟩ := ixo_enc hio (by omega)
      cases o with
      | none =>
        have hoff : ¬ offB S.1 none k0 = true := fun z => nomatch z
        cases hi1 : ixn a2 S.2.2.2.1 with
        | none =>
          refine lv_aload_n hx hb dX4_claim_0 rfl (lv_at hl 0 rfl) ?_
          refine lv_iconst (v := 0) hx hb dX4_claim_1 (by decide) ?_
          refine pM0_thrown hF hW q1095 dX4_claim_2 (fun H locs hW => ?_)
          have hW : pM G (MWl G ad (xi y 0 0) ++ W0) s _ _ := hW
          refine lv_aload_n hx hb dX4_claim_5 rfl (lv_at hl 0 rfl) ?_
          refine lv_iload_n hx hb dX4_claim_6 rfl (lv_at hl 1 rfl) ?_
          refine cl_i (ru_V (As := [.int (nI k0)]) (rest := []) hF (mX4_isFile l G ad (xi y 0 0) W0 (nI k0)) (cwV 1 hts (lw_V q1346 q1348 qs44 q66 q1349) rfl rfl rfl (by decide +kernel) ⟨lb hR1 rfl, lb hR4 rfl⟩) hW (List.mem_of_getElem? (i := 0) rfl) (ci := 20) rfl rfl rfl hl.1 rfl (lv_room (Nat.le_of_ble_eq_true rfl)) dX4_claim_7 ⟨by omega, by omega⟩) hW (fun r_ u_ H locs h_ hW => ?_)
          have hW : pM G (MWl G ad (xi y 0 0) ++ W0) s _ _ := hW
          rcases h_ with ⟨rfl, h_⟩ | ⟨rfl, h_⟩
          · refine lv_if_eq (tgt := 36) hx hb dX4_claim_10 (by decide) (fun c_10 => absurd c_10 (by decide)) (fun c_10 => ?_)
            refine lv_iload_n hx hb dX4_claim_13 rfl (lv_at hl 2 rfl) ?_
            refine lv_iconst (v := (-1)) hx hb dX4_claim_14 (by decide) ?_
            refine lv_icmp_eq (tgt := 42) hx hb dX4_claim_15 (by decide) (fun c_15 => ?_) (fun c_15 => absurd c_15 (by decide))
            refine lv_aload_n hx hb dX4_claim_42 rfl (lv_at hl 0 rfl) ?_
            refine lv_iload_n hx hb dX4_claim_43 rfl (lv_at hl 3 rfl) ?_
            refine cl_i (ru_V (As := [.int a2]) (rest := []) hF (mX4_isTaped l G ad (xi y 0 0) W0 a2) (cwV 1 hts (lw_V q1259 q1261 qs30 q66 q1262) rfl rfl rfl (by decide +kernel) ⟨lb hR1 rfl, lb hR4 rfl⟩) hW (List.mem_of_getElem? (i := 0) rfl) (ci := 20) rfl rfl rfl hl.1 rfl (lv_room (Nat.le_of_ble_eq_true rfl)) dX4_claim_44 ⟨by omega, by omega⟩) hW (fun r_ u_ H locs h_ hW => ?_)
            have hW : pM G (MWl G ad (xi y 0 0) ++ W0) s _ _ := hW
            rcases h_ with ⟨rfl, h_⟩ | ⟨rfl, h_⟩
            · exact absurd h_ (fun z => ixn_no hi1 (by omega) (by rw [show (xi y 0 0).1 11 = nI S.2.2.2.1 from m13] at z; exact z))
            · refine lv_if_ne (tgt := 56) hx hb dX4_claim_47 (by decide) (fun c_47 => absurd c_47 (by decide)) (fun c_47 => ?_)
              refine lv_aload_n hx hb dX4_claim_50 rfl (lv_at hl 0 rfl) ?_
              refine lv_iconst (v := 2) hx hb dX4_claim_51 (by decide) ?_
              refine cl_i (ru_V (As := [.int 2]) (rest := []) hF (mX4_refused l G ad (xi y 0 0) W0 2) (cwV 1 hts (lw_V q1255 q1257 qs29 q66 q1258) rfl rfl rfl (by decide +kernel) ⟨lb hR1 rfl, lb hR4 rfl⟩) hW (List.mem_of_getElem? (i := 0) rfl) (ci := 20) rfl rfl rfl hl.1 rfl (lv_room (Nat.le_of_ble_eq_true rfl)) dX4_claim_52 ⟨by omega, by omega⟩) hW (fun r_7 u_8 H locs h_9 hW => ?_)
              obtain ⟨rfl, rfl⟩ : r_7 = (-1) ∧ u_8 = _ := h_9
              have hW : pM G (MWl G ad (xi (xi (xi y 0 0) 1 2) 2 (-1)) ++ W0) s _ _ := hW
              exact re_i hF hRt hLk hQ (by omega) (by omega) dX4_claim_55 ((xi (xi (xi y 0 0) 1 2) 2 (-1)), []) (by unfold claimS; rw [hi0, hio]; dsimp only; rw [if_neg hoff, hi1]; exact ⟨rfl, MR.nil ⟨m0, m1, m2, m3, m4, m5, m6, m7, m8, m9, m10, m11, m12, m13, m14, rfl, m16, rfl, m18, m19, m20, m21, m22⟩⟩) (pM.nil (hW))
          · exact absurd ((by rw [show (xi y 0 0).1 6 = nI (cF S.1).length from m4]; exact ix_in hi0 : 0 ≤ (nI k0) ∧ (nI k0) < (xi y 0 0).1 6)) h_
        | some k1 =>
          obtain ⟨hk1, rfl⟩ := ixn_some hi1 (by omega)
          refine lv_aload_n hx hb dX4_claim_0 rfl (lv_at hl 0 rfl) ?_
          refine lv_iconst (v := 0) hx hb dX4_claim_1 (by decide) ?_
          refine pM0_thrown hF hW q1095 dX4_claim_2 (fun H locs hW => ?_)
          have hW : pM G (MWl G ad (xi y 0 0) ++ W0) s _ _ := hW
          refine lv_aload_n hx hb dX4_claim_5 rfl (lv_at hl 0 rfl) ?_
          refine lv_iload_n hx hb dX4_claim_6 rfl (lv_at hl 1 rfl) ?_
          refine cl_i (ru_V (As := [.int (nI k0)]) (rest := []) hF (mX4_isFile l G ad (xi y 0 0) W0 (nI k0)) (cwV 1 hts (lw_V q1346 q1348 qs44 q66 q1349) rfl rfl rfl (by decide +kernel) ⟨lb hR1 rfl, lb hR4 rfl⟩) hW (List.mem_of_getElem? (i := 0) rfl) (ci := 20) rfl rfl rfl hl.1 rfl (lv_room (Nat.le_of_ble_eq_true rfl)) dX4_claim_7 ⟨by omega, by omega⟩) hW (fun r_ u_ H locs h_ hW => ?_)
          have hW : pM G (MWl G ad (xi y 0 0) ++ W0) s _ _ := hW
          rcases h_ with ⟨rfl, h_⟩ | ⟨rfl, h_⟩
          · refine lv_if_eq (tgt := 36) hx hb dX4_claim_10 (by decide) (fun c_10 => absurd c_10 (by decide)) (fun c_10 => ?_)
            refine lv_iload_n hx hb dX4_claim_13 rfl (lv_at hl 2 rfl) ?_
            refine lv_iconst (v := (-1)) hx hb dX4_claim_14 (by decide) ?_
            refine lv_icmp_eq (tgt := 42) hx hb dX4_claim_15 (by decide) (fun c_15 => ?_) (fun c_15 => absurd c_15 (by decide))
            refine lv_aload_n hx hb dX4_claim_42 rfl (lv_at hl 0 rfl) ?_
            refine lv_iload_n hx hb dX4_claim_43 rfl (lv_at hl 3 rfl) ?_
            refine cl_i (ru_V (As := [.int (nI k1)]) (rest := []) hF (mX4_isTaped l G ad (xi y 0 0) W0 (nI k1)) (cwV 1 hts (lw_V q1259 q1261 qs30 q66 q1262) rfl rfl rfl (by decide +kernel) ⟨lb hR1 rfl, lb hR4 rfl⟩) hW (List.mem_of_getElem? (i := 0) rfl) (ci := 20) rfl rfl rfl hl.1 rfl (lv_room (Nat.le_of_ble_eq_true rfl)) dX4_claim_44 ⟨by omega, by omega⟩) hW (fun r_ u_ H locs h_ hW => ?_)
            have hW : pM G (MWl G ad (xi y 0 0) ++ W0) s _ _ := hW
            rcases h_ with ⟨rfl, h_⟩ | ⟨rfl, h_⟩
            · refine lv_if_ne (tgt := 56) hx hb dX4_claim_47 (by decide) (fun c_47 => ?_) (fun c_47 => absurd c_47 (by decide))
              refine lv_aload_n hx hb dX4_claim_56 rfl (lv_at hl 0 rfl) ?_
              refine lv_iconst (v := 0) hx hb dX4_claim_57 (by decide) ?_
              refine pM0_fault hF hW q1098 dX4_claim_58 (fun H locs hW => ?_)
              have hW : pM G (MWl G ad (xi (xi y 0 0) 3 0) ++ W0) s _ _ := hW
              refine nw (ci := 22) hF hW rfl in_X6 tyX6 tyX6_ok q1037 q1061 q68 (fs := [.int 0, .int 0, .null, .null, .null, .null, .null]) (fun j hj => by match j, hj with | 0, _ => rfl | 1, _ => rfl | 2, _ => rfl | 3, _ => rfl | 4, _ => rfl | 5, _ => rfl | 6, _ => rfl) (by omega) (by omega) dX4_claim_61 (fun qo_10 H hW => ?_)
              have hW := hW.asc
              have hW : pM G (MWl G ad (xi (xi y 0 0) 3 0) ++ (W0 ++ [(qo_10, .inr (22, [.int 0, .int 0, .null, .null, .null, .null, .null]))])) s _ _ := hW
              refine lv_dup hx hb dX4_claim_64 rfl ?_
              have hW := pM.csa (A := MWl G ad (xi (xi y 0 0) 3 0)) (B := W0) hW
              refine cl_v (ru_IN (As := []) (rest := [.ref qo_10]) hF (mX6_init l G (MWl G ad (xi (xi y 0 0) 3 0) ++ W0) qo_10) ⟨va_cnB 0 hts (lw_meth q1064) rfl rfl rfl (hW.2.2.2.2.2.1 _ (List.mem_of_getElem? (i := 26) rfl)) (hts _ q68) (by decide +kernel) ⟨lb hR1 rfl, lb hR4 rfl⟩, rfl, hts _ q1063⟩ hW rfl rfl hl.1 rfl (lv_room (Nat.le_of_ble_eq_true rfl)) dX4_claim_65 ⟨by omega, by omega⟩) hW (fun u_ H locs _ hW => ?_)
              obtain ⟨an, aw, af, av, at_⟩ := u_
              have hW := pM.rot (A := MWl G ad (xi (xi y 0 0) 3 0)) (B := W0) hW
              have hW : pM G (MWl G ad (xi (xi y 0 0) 3 0) ++ ((qo_10, .inr (22, [.int (nI nT.1.length), .int (nI nT.2.2.length), .ref an, .ref aw, .ref af, .ref av, .ref at_])) :: (an, .inl (G.2.2.1 3, 8, .inr (.inl (fun _ => 0)))) :: (aw, .inl (G.2.2.1 0, 8, .inl (fun _ => 0))) :: (af, .inl (G.2.2.1 0, 10, .inl (fun _ => 0))) :: (av, .inl (G.2.2.1 0, 10, .inl (fun _ => 0))) :: (at_, .inl (G.2.2.1 0, 10, .inl (fun _ => 0))) :: W0)) s _ _ := hW
              refine lv_astore (lv' := [(4, .ref qo_10), (0, .ref (ad 0)), (1, .int (nI k0)), (2, .int (-1)), (3, .int (nI k1))]) hx hb dX4_claim_68 hl (by decide) rfl (fun ls hl => ?_)
              refine lv_iload_n hx hb dX4_claim_70 rfl (lv_at hl 3 rfl) ?_
              refine lv_iconst (v := (-1)) hx hb dX4_claim_71 (by decide) ?_
              refine lv_icmp_eq (tgt := 86) hx hb dX4_claim_72 (by decide) (fun c_72 => ?_) (fun c_72 => absurd c_72 (by decide))
              refine lv_aload_n hx hb dX4_claim_86 rfl (lv_at hl 1 rfl) ?_
              refine lv_aload hx hb dX4_claim_87 (lv_at hl 0 rfl) ?_
              refine lv_iload_n hx hb dX4_claim_89 rfl (lv_at hl 4 rfl) ?_
              refine lv_bipush (v := 6) hx hb dX4_claim_90 (by decide) ?_
              refine lv_bipush (v := 8) hx hb dX4_claim_92 (by decide) ?_
              have hn : k1 ≤ 300 := by omega
              have hW : pM G (MWl G ad (mdx (xi (xi y 0 0) 3 0) (xi (xi y 0 0) 3 0).1 ((xi (xi y 0 0) 3 0).2.2.2.2.1 0)) ++ ((qo_10, .inr (22, [.int (nI nT.1.length), .int (nI nT.2.2.length), .ref an, .ref aw, .ref af, .ref av, .ref at_])) :: (an, .inl (G.2.2.1 3, 8, .inr (.inl (fun _ => 0)))) :: (aw, .inl (G.2.2.1 0, 8, .inl (fun _ => 0))) :: (af, .inl (G.2.2.1 0, 10, .inl (fun _ => 0))) :: (av, .inl (G.2.2.1 0, 10, .inl (fun _ => 0))) :: (at_, .inl (G.2.2.1 0, 10, .inl (fun _ => 0))) :: W0)) s _ _ := hW
              refine cx_v (rx_V (As := [.ref qo_10, .int (nI k1), .int 6, .int 8]) (rest := []) hF (mX4_reads l G ad (xi (xi y 0 0) 3 0) W0 (xi (xi y 0 0) 3 0).1 ((xi (xi y 0 0) 3 0).2.2.2.2.1 0) k1 hn (cW S.1) m1.1 b0 m0 hI.1.2.2.1 qo_10 an aw af av at_ (fun _ => 0) (fun _ => 0) (fun _ => 0) (fun _ => 0) (fun _ => 0) nT MHc_n 6 8 (nT_ok) (by omega) (by omega)) (cwV 4 hts (lw_V q1314 q1316 qs39 q66 q1317) rfl rfl rfl (by decide +kernel) ⟨lb hR1 rfl, lb hR4 rfl⟩) hW (List.mem_of_getElem? (i := 0) rfl) (ci := 20) rfl rfl rfl hl.1 rfl (lv_room (Nat.le_of_ble_eq_true rfl)) dX4_claim_94 ⟨by omega, by omega⟩) hW (fun u_12 H locs h_13 hW => ?_) (fun u_12 H locs h_13 hW => ?_)
              · obtain ⟨e1, e2, v2, lt2⟩ := u_12
                have hrd : readS S k1 6 8 nT = .inl (e1, e2) := by unfold readS; rw [← m14]; exact h_13
                have hW : pM G (MWl G ad (mdx (xi (xi (xi (xi (xi y 0 0) 3 0) 11 0) 21 (nI e1)) 22 (nI e2)) v2 lt2) ++ W0) s _ _ := hW
                refine ca hF htab rfl rfl (by decide) q1039 (List.mem_of_getElem? (i := 39) rfl) hW (List.mem_of_getElem? (i := 20) rfl) (ci := 21) rfl ?_
                refine lv_astore (lv' := [(5, .ref (ad 20)), (4, .ref qo_10), (0, .ref (ad 0)), (1, .int (nI k0)), (2, .int (-1)), (3, .int (nI k1))]) hx hb dX4_claim_100 hl (by decide) rfl (fun ls hl => ?_)
                refine lv_aload_n hx hb dX4_claim_102 rfl (lv_at hl 2 rfl) ?_
                refine lv_aload hx hb dX4_claim_103 (lv_at hl 0 rfl) ?_
                refine cl_i (ru_V (As := [.ref (ad 20)]) (rest := []) hF (mX4_wrong l G ad (mdx (xi (xi (xi (xi (xi y 0 0) 3 0) 11 0) 21 (nI e1)) 22 (nI e2)) v2 lt2) W0) (cwV 1 hts (lw_V q1334 q1336 qs43 q66 q1337) rfl rfl rfl (by decide +kernel) ⟨lb hR1 rfl, lb hR4 rfl⟩) hW (List.mem_of_getElem? (i := 0) rfl) (ci := 20) rfl rfl rfl hl.1 rfl (lv_room (Nat.le_of_ble_eq_true rfl)) dX4_claim_105 ⟨by omega, by omega⟩) hW (fun r_ u_ H locs h_ hW => ?_)
                obtain ⟨rfl, rfl⟩ : r_ = -1 ∧ u_ = _ := h_
                have hW : pM G (MWl G ad (xi (xi (xi (mdx (xi (xi (xi (xi (xi y 0 0) 3 0) 11 0) 21 (nI e1)) 22 (nI e2)) v2 lt2) 1 4) 2 (nI e2)) 3 (nI e1)) ++ W0) s _ _ := hW
                exact re_i hF hRt hLk hQ (by omega) (by omega) dX4_claim_108 ((xi (xi (xi (mdx (xi (xi (xi (xi (xi y 0 0) 3 0) 11 0) 21 (nI e1)) 22 (nI e2)) v2 lt2) 1 4) 2 (nI e2)) 3 (nI e1)), []) (by unfold claimS; rw [hi0, hio]; dsimp only; rw [if_neg hoff, hi1]; dsimp only; rw [show readS S k1 6 8 (baseT S.1 none) = _ from hrd]; exact ⟨rfl, MR.nil ⟨m0, m1, m2, m3, m4, m5, m6, m7, m8, m9, m10, m11, m12, rfl, m14, rfl, rfl, rfl, m18, m19, m20, m21, m22⟩⟩) (pM.nil (hW))
              · obtain ⟨t9, nf9, wf9, ff9, vf9, tf9, v2, lt2⟩ := u_12
                obtain ⟨hrd, hok9, ht9⟩ := h_13
                have hrd : readS S k1 6 8 nT = .inr t9 := by unfold readS; rw [← m14]; exact hrd
                have hok9 : TxOk (cW S.1).length 6 8 t9 := hok9
                have ht9 : MHc t9 nf9 wf9 ff9 vf9 tf9 := ht9
                have hW : pM G (MWl G ad (mdx (xi (xi (xi y 0 0) 3 0) 11 0) v2 lt2) ++ ((qo_10, .inr (22, [.int (nI t9.1.length), .int (nI t9.2.2.length), .ref an, .ref aw, .ref af, .ref av, .ref at_])) :: (an, .inl (G.2.2.1 3, 8, .inr (.inl nf9))) :: (aw, .inl (G.2.2.1 0, 8, .inl wf9)) :: (af, .inl (G.2.2.1 0, 10, .inl ff9)) :: (av, .inl (G.2.2.1 0, 10, .inl vf9)) :: (at_, .inl (G.2.2.1 0, 10, .inl tf9)) :: W0)) s _ _ := hW
                refine lv_goto (tgt := 109) hx hb dX4_claim_97 (by decide) ?_
                refine lv_aload_n hx hb dX4_claim_109 rfl (lv_at hl 1 rfl) ?_
                refine lv_aload_n hx hb dX4_claim_110 rfl (lv_at hl 1 rfl) ?_
                refine gM0_file hF hW q1108 dX4_claim_111 ?_
                refine lv_iload_n hx hb dX4_claim_114 rfl (lv_at hl 2 rfl) ?_
                obtain ⟨qf, hqf1, hqf2⟩ := (m5 k0 hk0).1
                refine lM4 hF hW (j := k0) (rfl) (by omega) (r := qf) (hqf1) dX4_claim_115 ?_
                refine lv_aload hx hb dX4_claim_116 (lv_at hl 0 rfl) ?_
                have hokf := (hI.2.2.1.2 k0 hk0).1
                have hW : pM G (MWl G ad (mfx (mdx (xi (xi (xi y 0 0) 3 0) 11 0) v2 lt2) ((mdx (xi (xi (xi y 0 0) 3 0) 11 0) v2 lt2).1 17) ((mdx (xi (xi (xi y 0 0) 3 0) 11 0) v2 lt2).2.1 14) ((mdx (xi (xi (xi y 0 0) 3 0) 11 0) v2 lt2).2.1 15)) ++ ((qo_10, .inr (22, [.int (nI t9.1.length), .int (nI t9.2.2.length), .ref an, .ref aw, .ref af, .ref av, .ref at_])) :: (an, .inl (G.2.2.1 3, 8, .inr (.inl nf9))) :: (aw, .inl (G.2.2.1 0, 8, .inl wf9)) :: (af, .inl (G.2.2.1 0, 10, .inl ff9)) :: (av, .inl (G.2.2.1 0, 10, .inl vf9)) :: (at_, .inl (G.2.2.1 0, 10, .inl tf9)) :: W0)) s _ _ := hW
                refine cl_i (ru_V (As := [.ref qf, .ref qo_10]) (rest := []) hF (mX4_discloses l G ad (mdx (xi (xi (xi y 0 0) 3 0) 11 0) v2 lt2) ((qo_10, .inr (22, [.int (nI t9.1.length), .int (nI t9.2.2.length), .ref an, .ref aw, .ref af, .ref av, .ref at_])) :: (an, .inl (G.2.2.1 3, 8, .inr (.inl nf9))) :: (aw, .inl (G.2.2.1 0, 8, .inl wf9)) :: (af, .inl (G.2.2.1 0, 10, .inl ff9)) :: (av, .inl (G.2.2.1 0, 10, .inl vf9)) :: (at_, .inl (G.2.2.1 0, 10, .inl tf9)) :: W0) ((mdx (xi (xi (xi y 0 0) 3 0) 11 0) v2 lt2).1 17) ((mdx (xi (xi (xi y 0 0) 3 0) 11 0) v2 lt2).2.1 14) ((mdx (xi (xi (xi y 0 0) 3 0) 11 0) v2 lt2).2.1 15) qo_10 qf t9 (((cF S.1).getD k0 dF).1) (⟨an, aw, af, av, at_, nf9, wf9, ff9, vf9, tf9, List.mem_of_getElem? (i := 0) rfl, List.mem_of_getElem? (i := 1) rfl, List.mem_of_getElem? (i := 2) rfl, List.mem_of_getElem? (i := 3) rfl, List.mem_of_getElem? (i := 4) rfl, List.mem_of_getElem? (i := 5) rfl, ht9.2⟩) (hqf2.u.mono (fun z h => List.mem_cons_of_mem _ (List.mem_cons_of_mem _ (List.mem_cons_of_mem _ (List.mem_cons_of_mem _ (List.mem_cons_of_mem _ (List.mem_cons_of_mem _ (hT z h)))))))) (cW S.1).length (WdOk.cg m1.2 (wdF_ok hI)) b0 hok9.wide hokf) (cwV 2 hts (lw_V q1362 q1364 qs46 q66 q1365) rfl rfl rfl (by decide +kernel) ⟨lb hR1 rfl, lb hR4 rfl⟩) hW (List.mem_of_getElem? (i := 0) rfl) (ci := 20) rfl rfl rfl hl.1 rfl (lv_room (Nat.le_of_ble_eq_true rfl)) dX4_claim_118 ⟨by omega, by omega⟩) hW (fun r_ u_ H locs h_ hW => ?_)
                obtain ⟨w2, go2, fi2⟩ := u_
                have hW : pM G (MWl G ad (mfx (mdx (xi (xi (xi y 0 0) 3 0) 11 0) v2 lt2) w2 go2 fi2) ++ ((qo_10, .inr (22, [.int (nI t9.1.length), .int (nI t9.2.2.length), .ref an, .ref aw, .ref af, .ref av, .ref at_])) :: (an, .inl (G.2.2.1 3, 8, .inr (.inl nf9))) :: (aw, .inl (G.2.2.1 0, 8, .inl wf9)) :: (af, .inl (G.2.2.1 0, 10, .inl ff9)) :: (av, .inl (G.2.2.1 0, 10, .inl vf9)) :: (at_, .inl (G.2.2.1 0, 10, .inl tf9)) :: W0)) s _ _ := hW
                rcases h_ with ⟨rfl, hd⟩ | ⟨rfl, hd⟩
                · have hd : disA S.1 (((cF S.1).getD k0 dF).1) t9 = true := by unfold disA; rw [← disB_cg (wd := wdF S.1) m1.2 (wdF_ok hI) b0 hokf]; exact hd
                  refine lv_if_ne (tgt := 130) hx hb dX4_claim_121 (by decide) (fun c_121 => ?_) (fun c_121 => absurd c_121 (by decide))
                  refine lv_aload_n hx hb dX4_claim_130 rfl (lv_at hl 1 rfl) ?_
                  refine gM0_claims hF hW q1102 (v := nI (cC S.1).length) (m8) dX4_claim_131 ?_
                  refine lv_bipush (v := 40) hx hb dX4_claim_134 (by decide) ?_
                  refine lv_icmp_ne (tgt := 145) hx hb dX4_claim_136 (by decide) (fun c_136 => ?_) (fun c_136 => ?_)
                  · have hfl : ¬ (cC S.1).length = 40 := fun z => c_136 (by rw [z]; rfl)
                    have hml : ∀ z ∈ T, z ∈ T ++ [(qo_10, .inr (22, [.int (nI t9.1.length), .int (nI t9.2.2.length), .ref an, .ref aw, .ref af, .ref av, .ref at_])), (an, .inl (G.2.2.1 3, 8, .inr (.inl nf9))), (aw, .inl (G.2.2.1 0, 8, .inl wf9)), (af, .inl (G.2.2.1 0, 10, .inl ff9)), (av, .inl (G.2.2.1 0, 10, .inl vf9)), (at_, .inl (G.2.2.1 0, 10, .inl tf9))] := fun z h => List.mem_append_left _ h
                    have hmt : MT G (T ++ [(qo_10, .inr (22, [.int (nI t9.1.length), .int (nI t9.2.2.length), .ref an, .ref aw, .ref af, .ref av, .ref at_])), (an, .inl (G.2.2.1 3, 8, .inr (.inl nf9))), (aw, .inl (G.2.2.1 0, 8, .inl wf9)), (af, .inl (G.2.2.1 0, 10, .inl ff9)), (av, .inl (G.2.2.1 0, 10, .inl vf9)), (at_, .inl (G.2.2.1 0, 10, .inl tf9))]) qo_10 t9 := ⟨an, aw, af, av, at_, nf9, wf9, ff9, vf9, tf9, List.mem_append_right _ (List.mem_of_getElem? (i := 0) rfl), List.mem_append_right _ (List.mem_of_getElem? (i := 1) rfl), List.mem_append_right _ (List.mem_of_getElem? (i := 2) rfl), List.mem_append_right _ (List.mem_of_getElem? (i := 3) rfl), List.mem_append_right _ (List.mem_of_getElem? (i := 4) rfl), List.mem_append_right _ (List.mem_of_getElem? (i := 5) rfl), ht9⟩
                    refine lv_aload_n hx hb dX4_claim_145 rfl (lv_at hl 1 rfl) ?_
                    refine gM0_claim hF hW q1110 dX4_claim_146 ?_
                    refine lv_aload_n hx hb dX4_claim_149 rfl (lv_at hl 1 rfl) ?_
                    refine gM0_claims hF hW q1102 (v := nI (cC S.1).length) (m8) dX4_claim_150 ?_
                    refine lv_aload hx hb dX4_claim_153 (lv_at hl 0 rfl) ?_
                    refine sM6 hF hW (ms_r (List.mem_of_getElem? (i := 0) rfl)) (ci := 22) rfl rfl (j := (cC S.1).length) (rfl) (by omega) dX4_claim_155 (fun H locs hW => ?_)
                    have hW : pM G (MWl G ad (xr (mfx (mdx (xi (xi (xi y 0 0) 3 0) 11 0) v2 lt2) w2 go2 fi2) 3 (va_up ((mfx (mdx (xi (xi (xi y 0 0) 3 0) 11 0) v2 lt2) w2 go2 fi2).2.2.1 3) ((cC S.1).length) (some qo_10))) ++ ((qo_10, .inr (22, [.int (nI t9.1.length), .int (nI t9.2.2.length), .ref an, .ref aw, .ref af, .ref av, .ref at_])) :: (an, .inl (G.2.2.1 3, 8, .inr (.inl nf9))) :: (aw, .inl (G.2.2.1 0, 8, .inl wf9)) :: (af, .inl (G.2.2.1 0, 10, .inl ff9)) :: (av, .inl (G.2.2.1 0, 10, .inl vf9)) :: (at_, .inl (G.2.2.1 0, 10, .inl tf9)) :: W0)) s _ _ := hW
                    refine lv_aload_n hx hb dX4_claim_156 rfl (lv_at hl 1 rfl) ?_
                    refine gM0_claimFile hF hW q1116 dX4_claim_157 ?_
                    refine lv_aload_n hx hb dX4_claim_160 rfl (lv_at hl 1 rfl) ?_
                    refine gM0_claims hF hW q1102 (v := nI (cC S.1).length) (m8) dX4_claim_161 ?_
                    refine lv_iload_n hx hb dX4_claim_164 rfl (lv_at hl 2 rfl) ?_
                    refine sM12 hF hW (j := (cC S.1).length) (rfl) (by omega) dX4_claim_165 (fun H locs hW => ?_)
                    have hW : pM G (MWl G ad (xr (xa (mfx (mdx (xi (xi (xi y 0 0) 3 0) 11 0) v2 lt2) w2 go2 fi2) 6 (va_up ((mfx (mdx (xi (xi (xi y 0 0) 3 0) 11 0) v2 lt2) w2 go2 fi2).2.1 6) ((cC S.1).length) (nI k0))) 3 (va_up ((mfx (mdx (xi (xi (xi y 0 0) 3 0) 11 0) v2 lt2) w2 go2 fi2).2.2.1 3) ((cC S.1).length) (some qo_10))) ++ ((qo_10, .inr (22, [.int (nI t9.1.length), .int (nI t9.2.2.length), .ref an, .ref aw, .ref af, .ref av, .ref at_])) :: (an, .inl (G.2.2.1 3, 8, .inr (.inl nf9))) :: (aw, .inl (G.2.2.1 0, 8, .inl wf9)) :: (af, .inl (G.2.2.1 0, 10, .inl ff9)) :: (av, .inl (G.2.2.1 0, 10, .inl vf9)) :: (at_, .inl (G.2.2.1 0, 10, .inl tf9)) :: W0)) s _ _ := hW
                    refine lv_aload_n hx hb dX4_claim_166 rfl (lv_at hl 1 rfl) ?_
                    refine gM0_claimOn hF hW q1117 dX4_claim_167 ?_
                    refine lv_aload_n hx hb dX4_claim_170 rfl (lv_at hl 1 rfl) ?_
                    refine gM0_claims hF hW q1102 (v := nI (cC S.1).length) (m8) dX4_claim_171 ?_
                    refine lv_iload_n hx hb dX4_claim_174 rfl (lv_at hl 3 rfl) ?_
                    refine sM13 hF hW (j := (cC S.1).length) (rfl) (by omega) dX4_claim_175 (fun H locs hW => ?_)
                    have hW : pM G (MWl G ad (xr (xa (xa (mfx (mdx (xi (xi (xi y 0 0) 3 0) 11 0) v2 lt2) w2 go2 fi2) 6 (va_up ((mfx (mdx (xi (xi (xi y 0 0) 3 0) 11 0) v2 lt2) w2 go2 fi2).2.1 6) ((cC S.1).length) (nI k0))) 7 (va_up ((mfx (mdx (xi (xi (xi y 0 0) 3 0) 11 0) v2 lt2) w2 go2 fi2).2.1 7) ((cC S.1).length) (-1))) 3 (va_up ((mfx (mdx (xi (xi (xi y 0 0) 3 0) 11 0) v2 lt2) w2 go2 fi2).2.2.1 3) ((cC S.1).length) (some qo_10))) ++ ((qo_10, .inr (22, [.int (nI t9.1.length), .int (nI t9.2.2.length), .ref an, .ref aw, .ref af, .ref av, .ref at_])) :: (an, .inl (G.2.2.1 3, 8, .inr (.inl nf9))) :: (aw, .inl (G.2.2.1 0, 8, .inl wf9)) :: (af, .inl (G.2.2.1 0, 10, .inl ff9)) :: (av, .inl (G.2.2.1 0, 10, .inl vf9)) :: (at_, .inl (G.2.2.1 0, 10, .inl tf9)) :: W0)) s _ _ := hW
                    refine lv_aload_n hx hb dX4_claim_176 rfl (lv_at hl 1 rfl) ?_
                    refine gM0_claimKnown hF hW q1118 dX4_claim_177 ?_
                    refine lv_aload_n hx hb dX4_claim_180 rfl (lv_at hl 1 rfl) ?_
                    refine gM0_claims hF hW q1102 (v := nI (cC S.1).length) (m8) dX4_claim_181 ?_
                    refine lv_aload_n hx hb dX4_claim_184 rfl (lv_at hl 1 rfl) ?_
                    refine gM0_now hF hW q1104 (v := nI (cN S.1)) (m10) dX4_claim_185 ?_
                    refine sM14 hF hW (j := (cC S.1).length) (rfl) (by omega) dX4_claim_188 (fun H locs hW => ?_)
                    have hW : pM G (MWl G ad (xr (xa (xa (xa (mfx (mdx (xi (xi (xi y 0 0) 3 0) 11 0) v2 lt2) w2 go2 fi2) 6 (va_up ((mfx (mdx (xi (xi (xi y 0 0) 3 0) 11 0) v2 lt2) w2 go2 fi2).2.1 6) ((cC S.1).length) (nI k0))) 7 (va_up ((mfx (mdx (xi (xi (xi y 0 0) 3 0) 11 0) v2 lt2) w2 go2 fi2).2.1 7) ((cC S.1).length) (-1))) 8 (va_up ((mfx (mdx (xi (xi (xi y 0 0) 3 0) 11 0) v2 lt2) w2 go2 fi2).2.1 8) ((cC S.1).length) (nI (cN S.1)))) 3 (va_up ((mfx (mdx (xi (xi (xi y 0 0) 3 0) 11 0) v2 lt2) w2 go2 fi2).2.2.1 3) ((cC S.1).length) (some qo_10))) ++ ((qo_10, .inr (22, [.int (nI t9.1.length), .int (nI t9.2.2.length), .ref an, .ref aw, .ref af, .ref av, .ref at_])) :: (an, .inl (G.2.2.1 3, 8, .inr (.inl nf9))) :: (aw, .inl (G.2.2.1 0, 8, .inl wf9)) :: (af, .inl (G.2.2.1 0, 10, .inl ff9)) :: (av, .inl (G.2.2.1 0, 10, .inl vf9)) :: (at_, .inl (G.2.2.1 0, 10, .inl tf9)) :: W0)) s _ _ := hW
                    refine lv_aload_n hx hb dX4_claim_189 rfl (lv_at hl 1 rfl) ?_
                    refine gM0_grantDay hF hW q1119 dX4_claim_190 ?_
                    refine lv_aload_n hx hb dX4_claim_193 rfl (lv_at hl 1 rfl) ?_
                    refine gM0_claims hF hW q1102 (v := nI (cC S.1).length) (m8) dX4_claim_194 ?_
                    refine lv_iconst (v := (-1)) hx hb dX4_claim_197 (by decide) ?_
                    refine sM15 hF hW (j := (cC S.1).length) (rfl) (by omega) dX4_claim_198 (fun H locs hW => ?_)
                    have hW : pM G (MWl G ad (xr (xa (xa (xa (xa (mfx (mdx (xi (xi (xi y 0 0) 3 0) 11 0) v2 lt2) w2 go2 fi2) 6 (va_up ((mfx (mdx (xi (xi (xi y 0 0) 3 0) 11 0) v2 lt2) w2 go2 fi2).2.1 6) ((cC S.1).length) (nI k0))) 7 (va_up ((mfx (mdx (xi (xi (xi y 0 0) 3 0) 11 0) v2 lt2) w2 go2 fi2).2.1 7) ((cC S.1).length) (-1))) 8 (va_up ((mfx (mdx (xi (xi (xi y 0 0) 3 0) 11 0) v2 lt2) w2 go2 fi2).2.1 8) ((cC S.1).length) (nI (cN S.1)))) 9 (va_up ((mfx (mdx (xi (xi (xi y 0 0) 3 0) 11 0) v2 lt2) w2 go2 fi2).2.1 9) ((cC S.1).length) (-1))) 3 (va_up ((mfx (mdx (xi (xi (xi y 0 0) 3 0) 11 0) v2 lt2) w2 go2 fi2).2.2.1 3) ((cC S.1).length) (some qo_10))) ++ ((qo_10, .inr (22, [.int (nI t9.1.length), .int (nI t9.2.2.length), .ref an, .ref aw, .ref af, .ref av, .ref at_])) :: (an, .inl (G.2.2.1 3, 8, .inr (.inl nf9))) :: (aw, .inl (G.2.2.1 0, 8, .inl wf9)) :: (af, .inl (G.2.2.1 0, 10, .inl ff9)) :: (av, .inl (G.2.2.1 0, 10, .inl vf9)) :: (at_, .inl (G.2.2.1 0, 10, .inl tf9)) :: W0)) s _ _ := hW
                    refine lv_aload_n hx hb dX4_claim_199 rfl (lv_at hl 1 rfl) ?_
                    refine gM0_dropDay hF hW q1120 dX4_claim_200 ?_
                    refine lv_aload_n hx hb dX4_claim_203 rfl (lv_at hl 1 rfl) ?_
                    refine gM0_claims hF hW q1102 (v := nI (cC S.1).length) (m8) dX4_claim_204 ?_
                    refine lv_iconst (v := (-1)) hx hb dX4_claim_207 (by decide) ?_
                    refine sM16 hF hW (j := (cC S.1).length) (rfl) (by omega) dX4_claim_208 (fun H locs hW => ?_)
                    have hW : pM G (MWl G ad (xr (xa (xa (xa (xa (xa (mfx (mdx (xi (xi (xi y 0 0) 3 0) 11 0) v2 lt2) w2 go2 fi2) 6 (va_up ((mfx (mdx (xi (xi (xi y 0 0) 3 0) 11 0) v2 lt2) w2 go2 fi2).2.1 6) ((cC S.1).length) (nI k0))) 7 (va_up ((mfx (mdx (xi (xi (xi y 0 0) 3 0) 11 0) v2 lt2) w2 go2 fi2).2.1 7) ((cC S.1).length) (-1))) 8 (va_up ((mfx (mdx (xi (xi (xi y 0 0) 3 0) 11 0) v2 lt2) w2 go2 fi2).2.1 8) ((cC S.1).length) (nI (cN S.1)))) 9 (va_up ((mfx (mdx (xi (xi (xi y 0 0) 3 0) 11 0) v2 lt2) w2 go2 fi2).2.1 9) ((cC S.1).length) (-1))) 10 (va_up ((mfx (mdx (xi (xi (xi y 0 0) 3 0) 11 0) v2 lt2) w2 go2 fi2).2.1 10) ((cC S.1).length) (-1))) 3 (va_up ((mfx (mdx (xi (xi (xi y 0 0) 3 0) 11 0) v2 lt2) w2 go2 fi2).2.2.1 3) ((cC S.1).length) (some qo_10))) ++ ((qo_10, .inr (22, [.int (nI t9.1.length), .int (nI t9.2.2.length), .ref an, .ref aw, .ref af, .ref av, .ref at_])) :: (an, .inl (G.2.2.1 3, 8, .inr (.inl nf9))) :: (aw, .inl (G.2.2.1 0, 8, .inl wf9)) :: (af, .inl (G.2.2.1 0, 10, .inl ff9)) :: (av, .inl (G.2.2.1 0, 10, .inl vf9)) :: (at_, .inl (G.2.2.1 0, 10, .inl tf9)) :: W0)) s _ _ := hW
                    refine lv_aload_n hx hb dX4_claim_209 rfl (lv_at hl 1 rfl) ?_
                    refine lv_iconst (v := 5) hx hb dX4_claim_210 (by decide) ?_
                    refine lv_iconst (v := 0) hx hb dX4_claim_211 (by decide) ?_
                    refine lv_null hx hb dX4_claim_212 ?_
                    refine cl_v (ru_V (As := [.int 5, .int 0, .null]) (rest := []) hF (mX4_act_n l G ad (xr (xa (xa (xa (xa (xa (mfx (mdx (xi (xi (xi y 0 0) 3 0) 11 0) v2 lt2) w2 go2 fi2) 6 (va_up ((mfx (mdx (xi (xi (xi y 0 0) 3 0) 11 0) v2 lt2) w2 go2 fi2).2.1 6) ((cC S.1).length) (nI k0))) 7 (va_up ((mfx (mdx (xi (xi (xi y 0 0) 3 0) 11 0) v2 lt2) w2 go2 fi2).2.1 7) ((cC S.1).length) (-1))) 8 (va_up ((mfx (mdx (xi (xi (xi y 0 0) 3 0) 11 0) v2 lt2) w2 go2 fi2).2.1 8) ((cC S.1).length) (nI (cN S.1)))) 9 (va_up ((mfx (mdx (xi (xi (xi y 0 0) 3 0) 11 0) v2 lt2) w2 go2 fi2).2.1 9) ((cC S.1).length) (-1))) 10 (va_up ((mfx (mdx (xi (xi (xi y 0 0) 3 0) 11 0) v2 lt2) w2 go2 fi2).2.1 10) ((cC S.1).length) (-1))) 3 (va_up ((mfx (mdx (xi (xi (xi y 0 0) 3 0) 11 0) v2 lt2) w2 go2 fi2).2.2.1 3) ((cC S.1).length) (some qo_10))) ((qo_10, .inr (22, [.int (nI t9.1.length), .int (nI t9.2.2.length), .ref an, .ref aw, .ref af, .ref av, .ref at_])) :: (an, .inl (G.2.2.1 3, 8, .inr (.inl nf9))) :: (aw, .inl (G.2.2.1 0, 8, .inl wf9)) :: (af, .inl (G.2.2.1 0, 10, .inl ff9)) :: (av, .inl (G.2.2.1 0, 10, .inl vf9)) :: (at_, .inl (G.2.2.1 0, 10, .inl tf9)) :: W0) S.2.1.length (by omega) (m11) 5 0) (cwV 3 hts (lw_V q1283 q1285 qs35 q66 q1286) rfl rfl rfl (by decide +kernel) ⟨lb hR1 rfl, lb hR4 rfl⟩) hW (List.mem_of_getElem? (i := 0) rfl) (ci := 20) rfl rfl rfl hl.1 rfl (lv_room (Nat.le_of_ble_eq_true rfl)) dX4_claim_213 ⟨by omega, by omega⟩) hW (fun u_15 H locs h_16 hW => ?_)
                    obtain rfl : u_15 = _ := h_16
                    have hW : pM G (MWl G ad (xr (xr (xa (xa (xa (xa (xa (xa (xa (xi (mfx (mdx (xi (xi (xi y 0 0) 3 0) 11 0) v2 lt2) w2 go2 fi2) 10 (nI (S.2.1.length + 1))) 6 (va_up ((mfx (mdx (xi (xi (xi y 0 0) 3 0) 11 0) v2 lt2) w2 go2 fi2).2.1 6) ((cC S.1).length) (nI k0))) 7 (va_up ((mfx (mdx (xi (xi (xi y 0 0) 3 0) 11 0) v2 lt2) w2 go2 fi2).2.1 7) ((cC S.1).length) (-1))) 8 (va_up ((mfx (mdx (xi (xi (xi y 0 0) 3 0) 11 0) v2 lt2) w2 go2 fi2).2.1 8) ((cC S.1).length) (nI (cN S.1)))) 9 (va_up ((mfx (mdx (xi (xi (xi y 0 0) 3 0) 11 0) v2 lt2) w2 go2 fi2).2.1 9) ((cC S.1).length) (-1))) 10 (va_up ((mfx (mdx (xi (xi (xi y 0 0) 3 0) 11 0) v2 lt2) w2 go2 fi2).2.1 10) ((cC S.1).length) (-1))) 11 (va_up ((mfx (mdx (xi (xi (xi y 0 0) 3 0) 11 0) v2 lt2) w2 go2 fi2).2.1 11) S.2.1.length 5)) 12 (va_up ((mfx (mdx (xi (xi (xi y 0 0) 3 0) 11 0) v2 lt2) w2 go2 fi2).2.1 12) S.2.1.length 0)) 3 (va_up ((mfx (mdx (xi (xi (xi y 0 0) 3 0) 11 0) v2 lt2) w2 go2 fi2).2.2.1 3) ((cC S.1).length) (some qo_10))) 4 (va_up ((mfx (mdx (xi (xi (xi y 0 0) 3 0) 11 0) v2 lt2) w2 go2 fi2).2.2.1 4) S.2.1.length none)) ++ ((qo_10, .inr (22, [.int (nI t9.1.length), .int (nI t9.2.2.length), .ref an, .ref aw, .ref af, .ref av, .ref at_])) :: (an, .inl (G.2.2.1 3, 8, .inr (.inl nf9))) :: (aw, .inl (G.2.2.1 0, 8, .inl wf9)) :: (af, .inl (G.2.2.1 0, 10, .inl ff9)) :: (av, .inl (G.2.2.1 0, 10, .inl vf9)) :: (at_, .inl (G.2.2.1 0, 10, .inl tf9)) :: W0)) s _ _ := hW
                    refine lv_aload_n hx hb dX4_claim_216 rfl (lv_at hl 1 rfl) ?_
                    refine lv_dup hx hb dX4_claim_217 rfl ?_
                    refine gM0_claims hF hW q1102 (v := nI (cC S.1).length) (m8) dX4_claim_218 ?_
                    refine lv_iconst (v := 1) hx hb dX4_claim_221 (by decide) ?_
                    refine lv_iadd hx hb dX4_claim_222 ?_
                    refine lv_eqi (show (nI (cC S.1).length) + 1 = nI ((cC S.1).length + 1) from nI_add ((cC S.1).length) 1) ?_
                    refine pM0_claims hF hW q1102 dX4_claim_223 (fun H locs hW => ?_)
                    have hW : pM G (MWl G ad (xr (xr (xa (xa (xa (xa (xa (xa (xa (xi (xi (mfx (mdx (xi (xi (xi y 0 0) 3 0) 11 0) v2 lt2) w2 go2 fi2) 7 (nI ((cC S.1).length + 1))) 10 (nI (S.2.1.length + 1))) 6 (va_up ((mfx (mdx (xi (xi (xi y 0 0) 3 0) 11 0) v2 lt2) w2 go2 fi2).2.1 6) ((cC S.1).length) (nI k0))) 7 (va_up ((mfx (mdx (xi (xi (xi y 0 0) 3 0) 11 0) v2 lt2) w2 go2 fi2).2.1 7) ((cC S.1).length) (-1))) 8 (va_up ((mfx (mdx (xi (xi (xi y 0 0) 3 0) 11 0) v2 lt2) w2 go2 fi2).2.1 8) ((cC S.1).length) (nI (cN S.1)))) 9 (va_up ((mfx (mdx (xi (xi (xi y 0 0) 3 0) 11 0) v2 lt2) w2 go2 fi2).2.1 9) ((cC S.1).length) (-1))) 10 (va_up ((mfx (mdx (xi (xi (xi y 0 0) 3 0) 11 0) v2 lt2) w2 go2 fi2).2.1 10) ((cC S.1).length) (-1))) 11 (va_up ((mfx (mdx (xi (xi (xi y 0 0) 3 0) 11 0) v2 lt2) w2 go2 fi2).2.1 11) S.2.1.length 5)) 12 (va_up ((mfx (mdx (xi (xi (xi y 0 0) 3 0) 11 0) v2 lt2) w2 go2 fi2).2.1 12) S.2.1.length 0)) 3 (va_up ((mfx (mdx (xi (xi (xi y 0 0) 3 0) 11 0) v2 lt2) w2 go2 fi2).2.2.1 3) ((cC S.1).length) (some qo_10))) 4 (va_up ((mfx (mdx (xi (xi (xi y 0 0) 3 0) 11 0) v2 lt2) w2 go2 fi2).2.2.1 4) S.2.1.length none)) ++ ((qo_10, .inr (22, [.int (nI t9.1.length), .int (nI t9.2.2.length), .ref an, .ref aw, .ref af, .ref av, .ref at_])) :: (an, .inl (G.2.2.1 3, 8, .inr (.inl nf9))) :: (aw, .inl (G.2.2.1 0, 8, .inl wf9)) :: (af, .inl (G.2.2.1 0, 10, .inl ff9)) :: (av, .inl (G.2.2.1 0, 10, .inl vf9)) :: (at_, .inl (G.2.2.1 0, 10, .inl tf9)) :: W0)) s _ _ := hW
                    refine lv_aload_n hx hb dX4_claim_226 rfl (lv_at hl 1 rfl) ?_
                    refine lv_aload_n hx hb dX4_claim_227 rfl (lv_at hl 1 rfl) ?_
                    refine gM0_claims hF hW q1102 (v := nI ((cC S.1).length + 1)) (rfl) dX4_claim_228 ?_
                    refine lv_iconst (v := 1) hx hb dX4_claim_231 (by decide) ?_
                    refine lv_isub hx hb dX4_claim_232 ?_
                    refine lv_eqi (show (nI ((cC S.1).length + 1)) - 1 = nI (cC S.1).length from nI_m1 _) ?_
                    refine cl_i (ru_V (As := [.int (nI (cC S.1).length)]) (rest := []) hF (mX4_done l G ad (xr (xr (xa (xa (xa (xa (xa (xa (xa (xi (xi (mfx (mdx (xi (xi (xi y 0 0) 3 0) 11 0) v2 lt2) w2 go2 fi2) 7 (nI ((cC S.1).length + 1))) 10 (nI (S.2.1.length + 1))) 6 (va_up ((mfx (mdx (xi (xi (xi y 0 0) 3 0) 11 0) v2 lt2) w2 go2 fi2).2.1 6) ((cC S.1).length) (nI k0))) 7 (va_up ((mfx (mdx (xi (xi (xi y 0 0) 3 0) 11 0) v2 lt2) w2 go2 fi2).2.1 7) ((cC S.1).length) (-1))) 8 (va_up ((mfx (mdx (xi (xi (xi y 0 0) 3 0) 11 0) v2 lt2) w2 go2 fi2).2.1 8) ((cC S.1).length) (nI (cN S.1)))) 9 (va_up ((mfx (mdx (xi (xi (xi y 0 0) 3 0) 11 0) v2 lt2) w2 go2 fi2).2.1 9) ((cC S.1).length) (-1))) 10 (va_up ((mfx (mdx (xi (xi (xi y 0 0) 3 0) 11 0) v2 lt2) w2 go2 fi2).2.1 10) ((cC S.1).length) (-1))) 11 (va_up ((mfx (mdx (xi (xi (xi y 0 0) 3 0) 11 0) v2 lt2) w2 go2 fi2).2.1 11) S.2.1.length 5)) 12 (va_up ((mfx (mdx (xi (xi (xi y 0 0) 3 0) 11 0) v2 lt2) w2 go2 fi2).2.1 12) S.2.1.length 0)) 3 (va_up ((mfx (mdx (xi (xi (xi y 0 0) 3 0) 11 0) v2 lt2) w2 go2 fi2).2.2.1 3) ((cC S.1).length) (some qo_10))) 4 (va_up ((mfx (mdx (xi (xi (xi y 0 0) 3 0) 11 0) v2 lt2) w2 go2 fi2).2.2.1 4) S.2.1.length none)) ((qo_10, .inr (22, [.int (nI t9.1.length), .int (nI t9.2.2.length), .ref an, .ref aw, .ref af, .ref av, .ref at_])) :: (an, .inl (G.2.2.1 3, 8, .inr (.inl nf9))) :: (aw, .inl (G.2.2.1 0, 8, .inl wf9)) :: (af, .inl (G.2.2.1 0, 10, .inl ff9)) :: (av, .inl (G.2.2.1 0, 10, .inl vf9)) :: (at_, .inl (G.2.2.1 0, 10, .inl tf9)) :: W0) (nI (cC S.1).length)) (cwV 1 hts (lw_V q1287 q1289 qs36 q66 q1290) rfl rfl rfl (by decide +kernel) ⟨lb hR1 rfl, lb hR4 rfl⟩) hW (List.mem_of_getElem? (i := 0) rfl) (ci := 20) rfl rfl rfl hl.1 rfl (lv_room (Nat.le_of_ble_eq_true rfl)) dX4_claim_233 ⟨by omega, by omega⟩) hW (fun r_17 u_18 H locs h_19 hW => ?_)
                    obtain ⟨rfl, rfl⟩ : r_17 = nI (cC S.1).length ∧ u_18 = _ := h_19
                    have hW : pM G (MWl G ad (xr (xr (xa (xa (xa (xa (xa (xa (xa (xi (xi (xi (xi (mfx (mdx (xi (xi (xi y 0 0) 3 0) 11 0) v2 lt2) w2 go2 fi2) 1 0) 2 (-1)) 7 (nI ((cC S.1).length + 1))) 10 (nI (S.2.1.length + 1))) 6 (va_up ((mfx (mdx (xi (xi (xi y 0 0) 3 0) 11 0) v2 lt2) w2 go2 fi2).2.1 6) ((cC S.1).length) (nI k0))) 7 (va_up ((mfx (mdx (xi (xi (xi y 0 0) 3 0) 11 0) v2 lt2) w2 go2 fi2).2.1 7) ((cC S.1).length) (-1))) 8 (va_up ((mfx (mdx (xi (xi (xi y 0 0) 3 0) 11 0) v2 lt2) w2 go2 fi2).2.1 8) ((cC S.1).length) (nI (cN S.1)))) 9 (va_up ((mfx (mdx (xi (xi (xi y 0 0) 3 0) 11 0) v2 lt2) w2 go2 fi2).2.1 9) ((cC S.1).length) (-1))) 10 (va_up ((mfx (mdx (xi (xi (xi y 0 0) 3 0) 11 0) v2 lt2) w2 go2 fi2).2.1 10) ((cC S.1).length) (-1))) 11 (va_up ((mfx (mdx (xi (xi (xi y 0 0) 3 0) 11 0) v2 lt2) w2 go2 fi2).2.1 11) S.2.1.length 5)) 12 (va_up ((mfx (mdx (xi (xi (xi y 0 0) 3 0) 11 0) v2 lt2) w2 go2 fi2).2.1 12) S.2.1.length 0)) 3 (va_up ((mfx (mdx (xi (xi (xi y 0 0) 3 0) 11 0) v2 lt2) w2 go2 fi2).2.2.1 3) ((cC S.1).length) (some qo_10))) 4 (va_up ((mfx (mdx (xi (xi (xi y 0 0) 3 0) 11 0) v2 lt2) w2 go2 fi2).2.2.1 4) S.2.1.length none)) ++ ((qo_10, .inr (22, [.int (nI t9.1.length), .int (nI t9.2.2.length), .ref an, .ref aw, .ref af, .ref av, .ref at_])) :: (an, .inl (G.2.2.1 3, 8, .inr (.inl nf9))) :: (aw, .inl (G.2.2.1 0, 8, .inl wf9)) :: (af, .inl (G.2.2.1 0, 10, .inl ff9)) :: (av, .inl (G.2.2.1 0, 10, .inl vf9)) :: (at_, .inl (G.2.2.1 0, 10, .inl tf9)) :: W0)) s _ _ := hW
                    exact re_i hF hRt hLk hQ (by omega) (by omega) dX4_claim_236 ((xr (xr (xa (xa (xa (xa (xa (xa (xa (xi (xi (xi (xi (mfx (mdx (xi (xi (xi y 0 0) 3 0) 11 0) v2 lt2) w2 go2 fi2) 1 0) 2 (-1)) 7 (nI ((cC S.1).length + 1))) 10 (nI (S.2.1.length + 1))) 6 (va_up ((mfx (mdx (xi (xi (xi y 0 0) 3 0) 11 0) v2 lt2) w2 go2 fi2).2.1 6) ((cC S.1).length) (nI k0))) 7 (va_up ((mfx (mdx (xi (xi (xi y 0 0) 3 0) 11 0) v2 lt2) w2 go2 fi2).2.1 7) ((cC S.1).length) (-1))) 8 (va_up ((mfx (mdx (xi (xi (xi y 0 0) 3 0) 11 0) v2 lt2) w2 go2 fi2).2.1 8) ((cC S.1).length) (nI (cN S.1)))) 9 (va_up ((mfx (mdx (xi (xi (xi y 0 0) 3 0) 11 0) v2 lt2) w2 go2 fi2).2.1 9) ((cC S.1).length) (-1))) 10 (va_up ((mfx (mdx (xi (xi (xi y 0 0) 3 0) 11 0) v2 lt2) w2 go2 fi2).2.1 10) ((cC S.1).length) (-1))) 11 (va_up ((mfx (mdx (xi (xi (xi y 0 0) 3 0) 11 0) v2 lt2) w2 go2 fi2).2.1 11) S.2.1.length 5)) 12 (va_up ((mfx (mdx (xi (xi (xi y 0 0) 3 0) 11 0) v2 lt2) w2 go2 fi2).2.1 12) S.2.1.length 0)) 3 (va_up ((mfx (mdx (xi (xi (xi y 0 0) 3 0) 11 0) v2 lt2) w2 go2 fi2).2.2.1 3) ((cC S.1).length) (some qo_10))) 4 (va_up ((mfx (mdx (xi (xi (xi y 0 0) 3 0) 11 0) v2 lt2) w2 go2 fi2).2.2.1 4) S.2.1.length none)), [(qo_10, .inr (22, [.int (nI t9.1.length), .int (nI t9.2.2.length), .ref an, .ref aw, .ref af, .ref av, .ref at_])), (an, .inl (G.2.2.1 3, 8, .inr (.inl nf9))), (aw, .inl (G.2.2.1 0, 8, .inl wf9)), (af, .inl (G.2.2.1 0, 10, .inl ff9)), (av, .inl (G.2.2.1 0, 10, .inl vf9)), (at_, .inl (G.2.2.1 0, 10, .inl tf9))]) (by unfold claimS; rw [hi0, hio]; dsimp only; rw [if_neg hoff, hi1]; dsimp only; rw [show readS S k1 6 8 (baseT S.1 none) = _ from hrd]; dsimp only; rw [if_neg (by rw [hd]; decide), if_neg hfl]; exact ⟨rfl, ⟨m0, m1, m2, m3.mono hml, m4, m5.mono hml, m6, m7.mono hml, len_add (cC S.1) _, ClaR.add (t := t9) (fi := k0) (on := none) (kn := cN S.1) (m9.mono hml) hmt, m10, rfl, ActM.add (a := (5, 0, 0, nT)) (m12.mono hml) (fun z => nomatch z), rfl, m14, rfl, rfl, rfl, m18, m19, m20, m21, m22⟩⟩) (pM.swp [(qo_10, .inr (22, [.int (nI t9.1.length), .int (nI t9.2.2.length), .ref an, .ref aw, .ref af, .ref av, .ref at_])), (an, .inl (G.2.2.1 3, 8, .inr (.inl nf9))), (aw, .inl (G.2.2.1 0, 8, .inl wf9)), (af, .inl (G.2.2.1 0, 10, .inl ff9)), (av, .inl (G.2.2.1 0, 10, .inl vf9)), (at_, .inl (G.2.2.1 0, 10, .inl tf9))] hW)
                  · have hfl : (cC S.1).length = 40 := eq_eq (b := 40) c_136
                    refine lv_aload_n hx hb dX4_claim_139 rfl (lv_at hl 1 rfl) ?_
                    refine lv_iconst (v := 3) hx hb dX4_claim_140 (by decide) ?_
                    refine cl_i (ru_V (As := [.int 3]) (rest := []) hF (mX4_refused l G ad (mfx (mdx (xi (xi (xi y 0 0) 3 0) 11 0) v2 lt2) w2 go2 fi2) ((qo_10, .inr (22, [.int (nI t9.1.length), .int (nI t9.2.2.length), .ref an, .ref aw, .ref af, .ref av, .ref at_])) :: (an, .inl (G.2.2.1 3, 8, .inr (.inl nf9))) :: (aw, .inl (G.2.2.1 0, 8, .inl wf9)) :: (af, .inl (G.2.2.1 0, 10, .inl ff9)) :: (av, .inl (G.2.2.1 0, 10, .inl vf9)) :: (at_, .inl (G.2.2.1 0, 10, .inl tf9)) :: W0) 3) (cwV 1 hts (lw_V q1255 q1257 qs29 q66 q1258) rfl rfl rfl (by decide +kernel) ⟨lb hR1 rfl, lb hR4 rfl⟩) hW (List.mem_of_getElem? (i := 0) rfl) (ci := 20) rfl rfl rfl hl.1 rfl (lv_room (Nat.le_of_ble_eq_true rfl)) dX4_claim_141 ⟨by omega, by omega⟩) hW (fun r_20 u_21 H locs h_22 hW => ?_)
                    obtain ⟨rfl, rfl⟩ : r_20 = (-1) ∧ u_21 = _ := h_22
                    have hW : pM G (MWl G ad (xi (xi (mfx (mdx (xi (xi (xi y 0 0) 3 0) 11 0) v2 lt2) w2 go2 fi2) 1 3) 2 (-1)) ++ ((qo_10, .inr (22, [.int (nI t9.1.length), .int (nI t9.2.2.length), .ref an, .ref aw, .ref af, .ref av, .ref at_])) :: (an, .inl (G.2.2.1 3, 8, .inr (.inl nf9))) :: (aw, .inl (G.2.2.1 0, 8, .inl wf9)) :: (af, .inl (G.2.2.1 0, 10, .inl ff9)) :: (av, .inl (G.2.2.1 0, 10, .inl vf9)) :: (at_, .inl (G.2.2.1 0, 10, .inl tf9)) :: W0)) s _ _ := hW
                    exact re_i hF hRt hLk hQ (by omega) (by omega) dX4_claim_144 ((xi (xi (mfx (mdx (xi (xi (xi y 0 0) 3 0) 11 0) v2 lt2) w2 go2 fi2) 1 3) 2 (-1)), []) (by unfold claimS; rw [hi0, hio]; dsimp only; rw [if_neg hoff, hi1]; dsimp only; rw [show readS S k1 6 8 (baseT S.1 none) = _ from hrd]; dsimp only; rw [if_neg (by rw [hd]; decide), if_pos hfl]; exact ⟨rfl, MR.nil ⟨m0, m1, m2, m3, m4, m5, m6, m7, m8, m9, m10, m11, m12, rfl, m14, rfl, rfl, rfl, m18, m19, m20, m21, m22⟩⟩) (pM.nil (pM.drop6 hW))
                · have hd : disA S.1 (((cF S.1).getD k0 dF).1) t9 = false := by unfold disA; rw [← disB_cg (wd := wdF S.1) m1.2 (wdF_ok hI) b0 hokf]; exact hd
                  refine lv_if_ne (tgt := 130) hx hb dX4_claim_121 (by decide) (fun c_121 => absurd c_121 (by decide)) (fun c_121 => ?_)
                  refine lv_aload_n hx hb dX4_claim_124 rfl (lv_at hl 1 rfl) ?_
                  refine lv_iconst (v := 5) hx hb dX4_claim_125 (by decide) ?_
                  refine cl_i (ru_V (As := [.int 5]) (rest := []) hF (mX4_refused l G ad (mfx (mdx (xi (xi (xi y 0 0) 3 0) 11 0) v2 lt2) w2 go2 fi2) ((qo_10, .inr (22, [.int (nI t9.1.length), .int (nI t9.2.2.length), .ref an, .ref aw, .ref af, .ref av, .ref at_])) :: (an, .inl (G.2.2.1 3, 8, .inr (.inl nf9))) :: (aw, .inl (G.2.2.1 0, 8, .inl wf9)) :: (af, .inl (G.2.2.1 0, 10, .inl ff9)) :: (av, .inl (G.2.2.1 0, 10, .inl vf9)) :: (at_, .inl (G.2.2.1 0, 10, .inl tf9)) :: W0) 5) (cwV 1 hts (lw_V q1255 q1257 qs29 q66 q1258) rfl rfl rfl (by decide +kernel) ⟨lb hR1 rfl, lb hR4 rfl⟩) hW (List.mem_of_getElem? (i := 0) rfl) (ci := 20) rfl rfl rfl hl.1 rfl (lv_room (Nat.le_of_ble_eq_true rfl)) dX4_claim_126 ⟨by omega, by omega⟩) hW (fun r_23 u_24 H locs h_25 hW => ?_)
                  obtain ⟨rfl, rfl⟩ : r_23 = (-1) ∧ u_24 = _ := h_25
                  have hW : pM G (MWl G ad (xi (xi (mfx (mdx (xi (xi (xi y 0 0) 3 0) 11 0) v2 lt2) w2 go2 fi2) 1 5) 2 (-1)) ++ ((qo_10, .inr (22, [.int (nI t9.1.length), .int (nI t9.2.2.length), .ref an, .ref aw, .ref af, .ref av, .ref at_])) :: (an, .inl (G.2.2.1 3, 8, .inr (.inl nf9))) :: (aw, .inl (G.2.2.1 0, 8, .inl wf9)) :: (af, .inl (G.2.2.1 0, 10, .inl ff9)) :: (av, .inl (G.2.2.1 0, 10, .inl vf9)) :: (at_, .inl (G.2.2.1 0, 10, .inl tf9)) :: W0)) s _ _ := hW
                  exact re_i hF hRt hLk hQ (by omega) (by omega) dX4_claim_129 ((xi (xi (mfx (mdx (xi (xi (xi y 0 0) 3 0) 11 0) v2 lt2) w2 go2 fi2) 1 5) 2 (-1)), []) (by unfold claimS; rw [hi0, hio]; dsimp only; rw [if_neg hoff, hi1]; dsimp only; rw [show readS S k1 6 8 (baseT S.1 none) = _ from hrd]; dsimp only; rw [if_pos hd]; exact ⟨rfl, MR.nil ⟨m0, m1, m2, m3, m4, m5, m6, m7, m8, m9, m10, m11, m12, rfl, m14, rfl, rfl, rfl, m18, m19, m20, m21, m22⟩⟩) (pM.nil (pM.drop6 hW))
            · exact absurd ((by rw [show (xi y 0 0).1 11 = nI S.2.2.2.1 from m13]; exact ixn_in hi1 (by omega) : 0 ≤ (nI k1) ∧ (nI k1) ≤ (xi y 0 0).1 11)) h_
          · exact absurd ((by rw [show (xi y 0 0).1 6 = nI (cF S.1).length from m4]; exact ix_in hi0 : 0 ≤ (nI k0) ∧ (nI k0) < (xi y 0 0).1 6)) h_
      | some ko =>
        have hko := ho ko rfl
        have hfi := (hI.2.2.2.2.1.2 ko hko).2.1
        cases hi1 : ixn a2 S.2.2.2.1 with
        | none =>
          refine lv_aload_n hx hb dX4_claim_0 rfl (lv_at hl 0 rfl) ?_
          refine lv_iconst (v := 0) hx hb dX4_claim_1 (by decide) ?_
          refine pM0_thrown hF hW q1095 dX4_claim_2 (fun H locs hW => ?_)
          have hW : pM G (MWl G ad (xi y 0 0) ++ W0) s _ _ := hW
          refine lv_aload_n hx hb dX4_claim_5 rfl (lv_at hl 0 rfl) ?_
          refine lv_iload_n hx hb dX4_claim_6 rfl (lv_at hl 1 rfl) ?_
          refine cl_i (ru_V (As := [.int (nI k0)]) (rest := []) hF (mX4_isFile l G ad (xi y 0 0) W0 (nI k0)) (cwV 1 hts (lw_V q1346 q1348 qs44 q66 q1349) rfl rfl rfl (by decide +kernel) ⟨lb hR1 rfl, lb hR4 rfl⟩) hW (List.mem_of_getElem? (i := 0) rfl) (ci := 20) rfl rfl rfl hl.1 rfl (lv_room (Nat.le_of_ble_eq_true rfl)) dX4_claim_7 ⟨by omega, by omega⟩) hW (fun r_ u_ H locs h_ hW => ?_)
          have hW : pM G (MWl G ad (xi y 0 0) ++ W0) s _ _ := hW
          rcases h_ with ⟨rfl, h_⟩ | ⟨rfl, h_⟩
          · refine lv_if_eq (tgt := 36) hx hb dX4_claim_10 (by decide) (fun c_10 => absurd c_10 (by decide)) (fun c_10 => ?_)
            refine lv_iload_n hx hb dX4_claim_13 rfl (lv_at hl 2 rfl) ?_
            refine lv_iconst (v := (-1)) hx hb dX4_claim_14 (by decide) ?_
            refine lv_icmp_eq (tgt := 42) hx hb dX4_claim_15 (by decide) (fun c_15 => absurd c_15 (nI_ne_m1 (by omega))) (fun c_15 => ?_)
            refine lv_aload_n hx hb dX4_claim_18 rfl (lv_at hl 0 rfl) ?_
            refine lv_iload_n hx hb dX4_claim_19 rfl (lv_at hl 2 rfl) ?_
            refine cl_i (ru_V (As := [.int (nI ko)]) (rest := []) hF (mX4_isClaim l G ad (xi y 0 0) W0 (nI ko)) (cwV 1 hts (lw_V q1354 q1356 qs45 q66 q1357) rfl rfl rfl (by decide +kernel) ⟨lb hR1 rfl, lb hR4 rfl⟩) hW (List.mem_of_getElem? (i := 0) rfl) (ci := 20) rfl rfl rfl hl.1 rfl (lv_room (Nat.le_of_ble_eq_true rfl)) dX4_claim_20 ⟨by omega, by omega⟩) hW (fun r_ u_ H locs h_ hW => ?_)
            have hW : pM G (MWl G ad (xi y 0 0) ++ W0) s _ _ := hW
            rcases h_ with ⟨rfl, h_⟩ | ⟨rfl, h_⟩
            · refine lv_if_eq (tgt := 36) hx hb dX4_claim_23 (by decide) (fun c_23 => absurd c_23 (by decide)) (fun c_23 => ?_)
              refine lv_aload_n hx hb dX4_claim_26 rfl (lv_at hl 0 rfl) ?_
              refine gM0_claimFile hF hW q1116 dX4_claim_27 ?_
              refine lv_iload_n hx hb dX4_claim_30 rfl (lv_at hl 2 rfl) ?_
              refine lM12 hF hW (j := ko) (rfl) (by omega) (v := nI ((cC S.1).getD ko dC).2.1) ((m9 ko hko).2.1) dX4_claim_31 ?_
              refine lv_iload_n hx hb dX4_claim_32 rfl (lv_at hl 1 rfl) ?_
              refine lv_icmp_eq (tgt := 42) hx hb dX4_claim_33 (by decide) (fun c_33 => ?_) (fun c_33 => ?_)
              · have hoff : ¬ offB S.1 (some ko) k0 = true := fun z => (of_decide_eq_true z) (eq_eq c_33)
                refine lv_aload_n hx hb dX4_claim_42 rfl (lv_at hl 0 rfl) ?_
                refine lv_iload_n hx hb dX4_claim_43 rfl (lv_at hl 3 rfl) ?_
                refine cl_i (ru_V (As := [.int a2]) (rest := []) hF (mX4_isTaped l G ad (xi y 0 0) W0 a2) (cwV 1 hts (lw_V q1259 q1261 qs30 q66 q1262) rfl rfl rfl (by decide +kernel) ⟨lb hR1 rfl, lb hR4 rfl⟩) hW (List.mem_of_getElem? (i := 0) rfl) (ci := 20) rfl rfl rfl hl.1 rfl (lv_room (Nat.le_of_ble_eq_true rfl)) dX4_claim_44 ⟨by omega, by omega⟩) hW (fun r_ u_ H locs h_ hW => ?_)
                have hW : pM G (MWl G ad (xi y 0 0) ++ W0) s _ _ := hW
                rcases h_ with ⟨rfl, h_⟩ | ⟨rfl, h_⟩
                · exact absurd h_ (fun z => ixn_no hi1 (by omega) (by rw [show (xi y 0 0).1 11 = nI S.2.2.2.1 from m13] at z; exact z))
                · refine lv_if_ne (tgt := 56) hx hb dX4_claim_47 (by decide) (fun c_47 => absurd c_47 (by decide)) (fun c_47 => ?_)
                  refine lv_aload_n hx hb dX4_claim_50 rfl (lv_at hl 0 rfl) ?_
                  refine lv_iconst (v := 2) hx hb dX4_claim_51 (by decide) ?_
                  refine cl_i (ru_V (As := [.int 2]) (rest := []) hF (mX4_refused l G ad (xi y 0 0) W0 2) (cwV 1 hts (lw_V q1255 q1257 qs29 q66 q1258) rfl rfl rfl (by decide +kernel) ⟨lb hR1 rfl, lb hR4 rfl⟩) hW (List.mem_of_getElem? (i := 0) rfl) (ci := 20) rfl rfl rfl hl.1 rfl (lv_room (Nat.le_of_ble_eq_true rfl)) dX4_claim_52 ⟨by omega, by omega⟩) hW (fun r_26 u_27 H locs h_28 hW => ?_)
                  obtain ⟨rfl, rfl⟩ : r_26 = (-1) ∧ u_27 = _ := h_28
                  have hW : pM G (MWl G ad (xi (xi (xi y 0 0) 1 2) 2 (-1)) ++ W0) s _ _ := hW
                  exact re_i hF hRt hLk hQ (by omega) (by omega) dX4_claim_55 ((xi (xi (xi y 0 0) 1 2) 2 (-1)), []) (by unfold claimS; rw [hi0, hio]; dsimp only; rw [if_neg hoff, hi1]; exact ⟨rfl, MR.nil ⟨m0, m1, m2, m3, m4, m5, m6, m7, m8, m9, m10, m11, m12, m13, m14, rfl, m16, rfl, m18, m19, m20, m21, m22⟩⟩) (pM.nil (hW))
              · have hoff : offB S.1 (some ko) k0 = true := decide_eq_true (fun z => c_33 (by rw [z]))
                refine lv_aload_n hx hb dX4_claim_36 rfl (lv_at hl 0 rfl) ?_
                refine lv_iconst (v := 1) hx hb dX4_claim_37 (by decide) ?_
                refine cl_i (ru_V (As := [.int 1]) (rest := []) hF (mX4_refused l G ad (xi y 0 0) W0 1) (cwV 1 hts (lw_V q1255 q1257 qs29 q66 q1258) rfl rfl rfl (by decide +kernel) ⟨lb hR1 rfl, lb hR4 rfl⟩) hW (List.mem_of_getElem? (i := 0) rfl) (ci := 20) rfl rfl rfl hl.1 rfl (lv_room (Nat.le_of_ble_eq_true rfl)) dX4_claim_38 ⟨by omega, by omega⟩) hW (fun r_29 u_30 H locs h_31 hW => ?_)
                obtain ⟨rfl, rfl⟩ : r_29 = (-1) ∧ u_30 = _ := h_31
                have hW : pM G (MWl G ad (xi (xi (xi y 0 0) 1 1) 2 (-1)) ++ W0) s _ _ := hW
                exact re_i hF hRt hLk hQ (by omega) (by omega) dX4_claim_41 ((xi (xi (xi y 0 0) 1 1) 2 (-1)), []) (by unfold claimS; rw [hi0, hio]; dsimp only; rw [if_pos hoff]; exact ⟨rfl, MR.nil ⟨m0, m1, m2, m3, m4, m5, m6, m7, m8, m9, m10, m11, m12, m13, m14, rfl, m16, rfl, m18, m19, m20, m21, m22⟩⟩) (pM.nil (hW))
            · exact absurd ((by rw [show (xi y 0 0).1 7 = nI (cC S.1).length from m8]; exact ix_in (ixo_s hio).1 : 0 ≤ nI ko ∧ nI ko < (xi y 0 0).1 7)) h_
          · exact absurd ((by rw [show (xi y 0 0).1 6 = nI (cF S.1).length from m4]; exact ix_in hi0 : 0 ≤ (nI k0) ∧ (nI k0) < (xi y 0 0).1 6)) h_
        | some k1 =>
          obtain ⟨hk1, rfl⟩ := ixn_some hi1 (by omega)
          refine lv_aload_n hx hb dX4_claim_0 rfl (lv_at hl 0 rfl) ?_
          refine lv_iconst (v := 0) hx hb dX4_claim_1 (by decide) ?_
          refine pM0_thrown hF hW q1095 dX4_claim_2 (fun H locs hW => ?_)
          have hW : pM G (MWl G ad (xi y 0 0) ++ W0) s _ _ := hW
          refine lv_aload_n hx hb dX4_claim_5 rfl (lv_at hl 0 rfl) ?_
          refine lv_iload_n hx hb dX4_claim_6 rfl (lv_at hl 1 rfl) ?_
          refine cl_i (ru_V (As := [.int (nI k0)]) (rest := []) hF (mX4_isFile l G ad (xi y 0 0) W0 (nI k0)) (cwV 1 hts (lw_V q1346 q1348 qs44 q66 q1349) rfl rfl rfl (by decide +kernel) ⟨lb hR1 rfl, lb hR4 rfl⟩) hW (List.mem_of_getElem? (i := 0) rfl) (ci := 20) rfl rfl rfl hl.1 rfl (lv_room (Nat.le_of_ble_eq_true rfl)) dX4_claim_7 ⟨by omega, by omega⟩) hW (fun r_ u_ H locs h_ hW => ?_)
          have hW : pM G (MWl G ad (xi y 0 0) ++ W0) s _ _ := hW
          rcases h_ with ⟨rfl, h_⟩ | ⟨rfl, h_⟩
          · refine lv_if_eq (tgt := 36) hx hb dX4_claim_10 (by decide) (fun c_10 => absurd c_10 (by decide)) (fun c_10 => ?_)
            refine lv_iload_n hx hb dX4_claim_13 rfl (lv_at hl 2 rfl) ?_
            refine lv_iconst (v := (-1)) hx hb dX4_claim_14 (by decide) ?_
            refine lv_icmp_eq (tgt := 42) hx hb dX4_claim_15 (by decide) (fun c_15 => absurd c_15 (nI_ne_m1 (by omega))) (fun c_15 => ?_)
            refine lv_aload_n hx hb dX4_claim_18 rfl (lv_at hl 0 rfl) ?_
            refine lv_iload_n hx hb dX4_claim_19 rfl (lv_at hl 2 rfl) ?_
            refine cl_i (ru_V (As := [.int (nI ko)]) (rest := []) hF (mX4_isClaim l G ad (xi y 0 0) W0 (nI ko)) (cwV 1 hts (lw_V q1354 q1356 qs45 q66 q1357) rfl rfl rfl (by decide +kernel) ⟨lb hR1 rfl, lb hR4 rfl⟩) hW (List.mem_of_getElem? (i := 0) rfl) (ci := 20) rfl rfl rfl hl.1 rfl (lv_room (Nat.le_of_ble_eq_true rfl)) dX4_claim_20 ⟨by omega, by omega⟩) hW (fun r_ u_ H locs h_ hW => ?_)
            have hW : pM G (MWl G ad (xi y 0 0) ++ W0) s _ _ := hW
            rcases h_ with ⟨rfl, h_⟩ | ⟨rfl, h_⟩
            · refine lv_if_eq (tgt := 36) hx hb dX4_claim_23 (by decide) (fun c_23 => absurd c_23 (by decide)) (fun c_23 => ?_)
              refine lv_aload_n hx hb dX4_claim_26 rfl (lv_at hl 0 rfl) ?_
              refine gM0_claimFile hF hW q1116 dX4_claim_27 ?_
              refine lv_iload_n hx hb dX4_claim_30 rfl (lv_at hl 2 rfl) ?_
              refine lM12 hF hW (j := ko) (rfl) (by omega) (v := nI ((cC S.1).getD ko dC).2.1) ((m9 ko hko).2.1) dX4_claim_31 ?_
              refine lv_iload_n hx hb dX4_claim_32 rfl (lv_at hl 1 rfl) ?_
              refine lv_icmp_eq (tgt := 42) hx hb dX4_claim_33 (by decide) (fun c_33 => ?_) (fun c_33 => ?_)
              · have hoff : ¬ offB S.1 (some ko) k0 = true := fun z => (of_decide_eq_true z) (eq_eq c_33)
                refine lv_aload_n hx hb dX4_claim_42 rfl (lv_at hl 0 rfl) ?_
                refine lv_iload_n hx hb dX4_claim_43 rfl (lv_at hl 3 rfl) ?_
                refine cl_i (ru_V (As := [.int (nI k1)]) (rest := []) hF (mX4_isTaped l G ad (xi y 0 0) W0 (nI k1)) (cwV 1 hts (lw_V q1259 q1261 qs30 q66 q1262) rfl rfl rfl (by decide +kernel) ⟨lb hR1 rfl, lb hR4 rfl⟩) hW (List.mem_of_getElem? (i := 0) rfl) (ci := 20) rfl rfl rfl hl.1 rfl (lv_room (Nat.le_of_ble_eq_true rfl)) dX4_claim_44 ⟨by omega, by omega⟩) hW (fun r_ u_ H locs h_ hW => ?_)
                have hW : pM G (MWl G ad (xi y 0 0) ++ W0) s _ _ := hW
                rcases h_ with ⟨rfl, h_⟩ | ⟨rfl, h_⟩
                · refine lv_if_ne (tgt := 56) hx hb dX4_claim_47 (by decide) (fun c_47 => ?_) (fun c_47 => absurd c_47 (by decide))
                  refine lv_aload_n hx hb dX4_claim_56 rfl (lv_at hl 0 rfl) ?_
                  refine lv_iconst (v := 0) hx hb dX4_claim_57 (by decide) ?_
                  refine pM0_fault hF hW q1098 dX4_claim_58 (fun H locs hW => ?_)
                  have hW : pM G (MWl G ad (xi (xi y 0 0) 3 0) ++ W0) s _ _ := hW
                  refine nw (ci := 22) hF hW rfl in_X6 tyX6 tyX6_ok q1037 q1061 q68 (fs := [.int 0, .int 0, .null, .null, .null, .null, .null]) (fun j hj => by match j, hj with | 0, _ => rfl | 1, _ => rfl | 2, _ => rfl | 3, _ => rfl | 4, _ => rfl | 5, _ => rfl | 6, _ => rfl) (by omega) (by omega) dX4_claim_61 (fun qo_32 H hW => ?_)
                  have hW := hW.asc
                  have hW : pM G (MWl G ad (xi (xi y 0 0) 3 0) ++ (W0 ++ [(qo_32, .inr (22, [.int 0, .int 0, .null, .null, .null, .null, .null]))])) s _ _ := hW
                  refine lv_dup hx hb dX4_claim_64 rfl ?_
                  have hW := pM.csa (A := MWl G ad (xi (xi y 0 0) 3 0)) (B := W0) hW
                  refine cl_v (ru_IN (As := []) (rest := [.ref qo_32]) hF (mX6_init l G (MWl G ad (xi (xi y 0 0) 3 0) ++ W0) qo_32) ⟨va_cnB 0 hts (lw_meth q1064) rfl rfl rfl (hW.2.2.2.2.2.1 _ (List.mem_of_getElem? (i := 26) rfl)) (hts _ q68) (by decide +kernel) ⟨lb hR1 rfl, lb hR4 rfl⟩, rfl, hts _ q1063⟩ hW rfl rfl hl.1 rfl (lv_room (Nat.le_of_ble_eq_true rfl)) dX4_claim_65 ⟨by omega, by omega⟩) hW (fun u_ H locs _ hW => ?_)
                  obtain ⟨an, aw, af, av, at_⟩ := u_
                  have hW := pM.rot (A := MWl G ad (xi (xi y 0 0) 3 0)) (B := W0) hW
                  have hW : pM G (MWl G ad (xi (xi y 0 0) 3 0) ++ ((qo_32, .inr (22, [.int (nI nT.1.length), .int (nI nT.2.2.length), .ref an, .ref aw, .ref af, .ref av, .ref at_])) :: (an, .inl (G.2.2.1 3, 8, .inr (.inl (fun _ => 0)))) :: (aw, .inl (G.2.2.1 0, 8, .inl (fun _ => 0))) :: (af, .inl (G.2.2.1 0, 10, .inl (fun _ => 0))) :: (av, .inl (G.2.2.1 0, 10, .inl (fun _ => 0))) :: (at_, .inl (G.2.2.1 0, 10, .inl (fun _ => 0))) :: W0)) s _ _ := hW
                  refine lv_astore (lv' := [(4, .ref qo_32), (0, .ref (ad 0)), (1, .int (nI k0)), (2, .int (nI ko)), (3, .int (nI k1))]) hx hb dX4_claim_68 hl (by decide) rfl (fun ls hl => ?_)
                  refine lv_iload_n hx hb dX4_claim_70 rfl (lv_at hl 3 rfl) ?_
                  refine lv_iconst (v := (-1)) hx hb dX4_claim_71 (by decide) ?_
                  refine lv_icmp_eq (tgt := 86) hx hb dX4_claim_72 (by decide) (fun c_72 => absurd c_72 (nI_ne_m1 (by omega))) (fun c_72 => ?_)
                  refine lv_aload hx hb dX4_claim_75 (lv_at hl 0 rfl) ?_
                  refine lv_aload_n hx hb dX4_claim_77 rfl (lv_at hl 1 rfl) ?_
                  refine gM0_claim hF hW q1110 dX4_claim_78 ?_
                  refine lv_iload_n hx hb dX4_claim_81 rfl (lv_at hl 3 rfl) ?_
                  obtain ⟨qo, hqo1, hqo2⟩ := (m9 ko hko).1
                  refine lM6 hF hW (j := ko) (rfl) (by omega) (r := qo) (hqo1) dX4_claim_82 ?_
                  have hokb := (hI.2.2.2.2.1.2 ko hko).1
                  refine cl_v (ru_V (As := [.ref qo]) (rest := []) hF (mX6_become l G (MWl G ad (xi (xi y 0 0) 3 0)) W0 qo_32 an aw af av at_ nT.1.length nT.2.2.length (fun _ => 0) (fun _ => 0) (fun _ => 0) (fun _ => 0) (fun _ => 0) qo ((cC S.1).getD ko dC).1 (hqo2.mono hT) hokb.wide.2.2.1 hokb.wide.2.2.2.1) (cwV 1 hts (lw_V q1358 q1359 q1360 q68 q1361) rfl rfl rfl (by decide +kernel) ⟨lb hR1 rfl, lb hR4 rfl⟩) hW (ms_r (List.mem_of_getElem? (i := 0) rfl)) (ci := 22) rfl rfl rfl hl.1 rfl (lv_room (Nat.le_of_ble_eq_true rfl)) dX4_claim_83 ⟨by omega, by omega⟩) hW (fun u_ H locs h_ hW => ?_)
                  obtain ⟨nf8, wf8, ff8, vf8, tf8⟩ := u_
                  have ht8 : MHc ((cC S.1).getD ko dC).1 nf8 wf8 ff8 vf8 tf8 := h_
                  have hW : pM G (MWl G ad (xi (xi y 0 0) 3 0) ++ ((qo_32, .inr (22, [.int (nI ((((cC S.1).getD ko dC).1).1.length)), .int (nI ((((cC S.1).getD ko dC).1).2.2.length)), .ref an, .ref aw, .ref af, .ref av, .ref at_])) :: (an, .inl (G.2.2.1 3, 8, .inr (.inl nf8))) :: (aw, .inl (G.2.2.1 0, 8, .inl wf8)) :: (af, .inl (G.2.2.1 0, 10, .inl ff8)) :: (av, .inl (G.2.2.1 0, 10, .inl vf8)) :: (at_, .inl (G.2.2.1 0, 10, .inl tf8)) :: W0)) s _ _ := hW
                  refine lv_aload_n hx hb dX4_claim_86 rfl (lv_at hl 1 rfl) ?_
                  refine lv_aload hx hb dX4_claim_87 (lv_at hl 0 rfl) ?_
                  refine lv_iload_n hx hb dX4_claim_89 rfl (lv_at hl 4 rfl) ?_
                  refine lv_bipush (v := 6) hx hb dX4_claim_90 (by decide) ?_
                  refine lv_bipush (v := 8) hx hb dX4_claim_92 (by decide) ?_
                  have hn : k1 ≤ 300 := by omega
                  have hW : pM G (MWl G ad (mdx (xi (xi y 0 0) 3 0) (xi (xi y 0 0) 3 0).1 ((xi (xi y 0 0) 3 0).2.2.2.2.1 0)) ++ ((qo_32, .inr (22, [.int (nI ((((cC S.1).getD ko dC).1).1.length)), .int (nI ((((cC S.1).getD ko dC).1).2.2.length)), .ref an, .ref aw, .ref af, .ref av, .ref at_])) :: (an, .inl (G.2.2.1 3, 8, .inr (.inl nf8))) :: (aw, .inl (G.2.2.1 0, 8, .inl wf8)) :: (af, .inl (G.2.2.1 0, 10, .inl ff8)) :: (av, .inl (G.2.2.1 0, 10, .inl vf8)) :: (at_, .inl (G.2.2.1 0, 10, .inl tf8)) :: W0)) s _ _ := hW
                  refine cx_v (rx_V (As := [.ref qo_32, .int (nI k1), .int 6, .int 8]) (rest := []) hF (mX4_reads l G ad (xi (xi y 0 0) 3 0) W0 (xi (xi y 0 0) 3 0).1 ((xi (xi y 0 0) 3 0).2.2.2.2.1 0) k1 hn (cW S.1) m1.1 b0 m0 hI.1.2.2.1 qo_32 an aw af av at_ nf8 wf8 ff8 vf8 tf8 (((cC S.1).getD ko dC).1) ht8 6 8 (hokb) (by omega) (by omega)) (cwV 4 hts (lw_V q1314 q1316 qs39 q66 q1317) rfl rfl rfl (by decide +kernel) ⟨lb hR1 rfl, lb hR4 rfl⟩) hW (List.mem_of_getElem? (i := 0) rfl) (ci := 20) rfl rfl rfl hl.1 rfl (lv_room (Nat.le_of_ble_eq_true rfl)) dX4_claim_94 ⟨by omega, by omega⟩) hW (fun u_34 H locs h_35 hW => ?_) (fun u_34 H locs h_35 hW => ?_)
                  · obtain ⟨e1, e2, v2, lt2⟩ := u_34
                    have hrd : readS S k1 6 8 (((cC S.1).getD ko dC).1) = .inl (e1, e2) := by unfold readS; rw [← m14]; exact h_35
                    have hW : pM G (MWl G ad (mdx (xi (xi (xi (xi (xi y 0 0) 3 0) 11 0) 21 (nI e1)) 22 (nI e2)) v2 lt2) ++ W0) s _ _ := hW
                    refine ca hF htab rfl rfl (by decide) q1039 (List.mem_of_getElem? (i := 39) rfl) hW (List.mem_of_getElem? (i := 20) rfl) (ci := 21) rfl ?_
                    refine lv_astore (lv' := [(5, .ref (ad 20)), (4, .ref qo_32), (0, .ref (ad 0)), (1, .int (nI k0)), (2, .int (nI ko)), (3, .int (nI k1))]) hx hb dX4_claim_100 hl (by decide) rfl (fun ls hl => ?_)
                    refine lv_aload_n hx hb dX4_claim_102 rfl (lv_at hl 2 rfl) ?_
                    refine lv_aload hx hb dX4_claim_103 (lv_at hl 0 rfl) ?_
                    refine cl_i (ru_V (As := [.ref (ad 20)]) (rest := []) hF (mX4_wrong l G ad (mdx (xi (xi (xi (xi (xi y 0 0) 3 0) 11 0) 21 (nI e1)) 22 (nI e2)) v2 lt2) W0) (cwV 1 hts (lw_V q1334 q1336 qs43 q66 q1337) rfl rfl rfl (by decide +kernel) ⟨lb hR1 rfl, lb hR4 rfl⟩) hW (List.mem_of_getElem? (i := 0) rfl) (ci := 20) rfl rfl rfl hl.1 rfl (lv_room (Nat.le_of_ble_eq_true rfl)) dX4_claim_105 ⟨by omega, by omega⟩) hW (fun r_ u_ H locs h_ hW => ?_)
                    obtain ⟨rfl, rfl⟩ : r_ = -1 ∧ u_ = _ := h_
                    have hW : pM G (MWl G ad (xi (xi (xi (mdx (xi (xi (xi (xi (xi y 0 0) 3 0) 11 0) 21 (nI e1)) 22 (nI e2)) v2 lt2) 1 4) 2 (nI e2)) 3 (nI e1)) ++ W0) s _ _ := hW
                    exact re_i hF hRt hLk hQ (by omega) (by omega) dX4_claim_108 ((xi (xi (xi (mdx (xi (xi (xi (xi (xi y 0 0) 3 0) 11 0) 21 (nI e1)) 22 (nI e2)) v2 lt2) 1 4) 2 (nI e2)) 3 (nI e1)), []) (by unfold claimS; rw [hi0, hio]; dsimp only; rw [if_neg hoff, hi1]; dsimp only; rw [show readS S k1 6 8 (baseT S.1 (some ko)) = _ from hrd]; exact ⟨rfl, MR.nil ⟨m0, m1, m2, m3, m4, m5, m6, m7, m8, m9, m10, m11, m12, rfl, m14, rfl, rfl, rfl, m18, m19, m20, m21, m22⟩⟩) (pM.nil (hW))
                  · obtain ⟨t9, nf9, wf9, ff9, vf9, tf9, v2, lt2⟩ := u_34
                    obtain ⟨hrd, hok9, ht9⟩ := h_35
                    have hrd : readS S k1 6 8 (((cC S.1).getD ko dC).1) = .inr t9 := by unfold readS; rw [← m14]; exact hrd
                    have hok9 : TxOk (cW S.1).length 6 8 t9 := hok9
                    have ht9 : MHc t9 nf9 wf9 ff9 vf9 tf9 := ht9
                    have hW : pM G (MWl G ad (mdx (xi (xi (xi y 0 0) 3 0) 11 0) v2 lt2) ++ ((qo_32, .inr (22, [.int (nI t9.1.length), .int (nI t9.2.2.length), .ref an, .ref aw, .ref af, .ref av, .ref at_])) :: (an, .inl (G.2.2.1 3, 8, .inr (.inl nf9))) :: (aw, .inl (G.2.2.1 0, 8, .inl wf9)) :: (af, .inl (G.2.2.1 0, 10, .inl ff9)) :: (av, .inl (G.2.2.1 0, 10, .inl vf9)) :: (at_, .inl (G.2.2.1 0, 10, .inl tf9)) :: W0)) s _ _ := hW
                    refine lv_goto (tgt := 109) hx hb dX4_claim_97 (by decide) ?_
                    refine lv_aload_n hx hb dX4_claim_109 rfl (lv_at hl 1 rfl) ?_
                    refine lv_aload_n hx hb dX4_claim_110 rfl (lv_at hl 1 rfl) ?_
                    refine gM0_file hF hW q1108 dX4_claim_111 ?_
                    refine lv_iload_n hx hb dX4_claim_114 rfl (lv_at hl 2 rfl) ?_
                    obtain ⟨qf, hqf1, hqf2⟩ := (m5 k0 hk0).1
                    refine lM4 hF hW (j := k0) (rfl) (by omega) (r := qf) (hqf1) dX4_claim_115 ?_
                    refine lv_aload hx hb dX4_claim_116 (lv_at hl 0 rfl) ?_
                    have hokf := (hI.2.2.1.2 k0 hk0).1
                    have hW : pM G (MWl G ad (mfx (mdx (xi (xi (xi y 0 0) 3 0) 11 0) v2 lt2) ((mdx (xi (xi (xi y 0 0) 3 0) 11 0) v2 lt2).1 17) ((mdx (xi (xi (xi y 0 0) 3 0) 11 0) v2 lt2).2.1 14) ((mdx (xi (xi (xi y 0 0) 3 0) 11 0) v2 lt2).2.1 15)) ++ ((qo_32, .inr (22, [.int (nI t9.1.length), .int (nI t9.2.2.length), .ref an, .ref aw, .ref af, .ref av, .ref at_])) :: (an, .inl (G.2.2.1 3, 8, .inr (.inl nf9))) :: (aw, .inl (G.2.2.1 0, 8, .inl wf9)) :: (af, .inl (G.2.2.1 0, 10, .inl ff9)) :: (av, .inl (G.2.2.1 0, 10, .inl vf9)) :: (at_, .inl (G.2.2.1 0, 10, .inl tf9)) :: W0)) s _ _ := hW
                    refine cl_i (ru_V (As := [.ref qf, .ref qo_32]) (rest := []) hF (mX4_discloses l G ad (mdx (xi (xi (xi y 0 0) 3 0) 11 0) v2 lt2) ((qo_32, .inr (22, [.int (nI t9.1.length), .int (nI t9.2.2.length), .ref an, .ref aw, .ref af, .ref av, .ref at_])) :: (an, .inl (G.2.2.1 3, 8, .inr (.inl nf9))) :: (aw, .inl (G.2.2.1 0, 8, .inl wf9)) :: (af, .inl (G.2.2.1 0, 10, .inl ff9)) :: (av, .inl (G.2.2.1 0, 10, .inl vf9)) :: (at_, .inl (G.2.2.1 0, 10, .inl tf9)) :: W0) ((mdx (xi (xi (xi y 0 0) 3 0) 11 0) v2 lt2).1 17) ((mdx (xi (xi (xi y 0 0) 3 0) 11 0) v2 lt2).2.1 14) ((mdx (xi (xi (xi y 0 0) 3 0) 11 0) v2 lt2).2.1 15) qo_32 qf t9 (((cF S.1).getD k0 dF).1) (⟨an, aw, af, av, at_, nf9, wf9, ff9, vf9, tf9, List.mem_of_getElem? (i := 0) rfl, List.mem_of_getElem? (i := 1) rfl, List.mem_of_getElem? (i := 2) rfl, List.mem_of_getElem? (i := 3) rfl, List.mem_of_getElem? (i := 4) rfl, List.mem_of_getElem? (i := 5) rfl, ht9.2⟩) (hqf2.u.mono (fun z h => List.mem_cons_of_mem _ (List.mem_cons_of_mem _ (List.mem_cons_of_mem _ (List.mem_cons_of_mem _ (List.mem_cons_of_mem _ (List.mem_cons_of_mem _ (hT z h)))))))) (cW S.1).length (WdOk.cg m1.2 (wdF_ok hI)) b0 hok9.wide hokf) (cwV 2 hts (lw_V q1362 q1364 qs46 q66 q1365) rfl rfl rfl (by decide +kernel) ⟨lb hR1 rfl, lb hR4 rfl⟩) hW (List.mem_of_getElem? (i := 0) rfl) (ci := 20) rfl rfl rfl hl.1 rfl (lv_room (Nat.le_of_ble_eq_true rfl)) dX4_claim_118 ⟨by omega, by omega⟩) hW (fun r_ u_ H locs h_ hW => ?_)
                    obtain ⟨w2, go2, fi2⟩ := u_
                    have hW : pM G (MWl G ad (mfx (mdx (xi (xi (xi y 0 0) 3 0) 11 0) v2 lt2) w2 go2 fi2) ++ ((qo_32, .inr (22, [.int (nI t9.1.length), .int (nI t9.2.2.length), .ref an, .ref aw, .ref af, .ref av, .ref at_])) :: (an, .inl (G.2.2.1 3, 8, .inr (.inl nf9))) :: (aw, .inl (G.2.2.1 0, 8, .inl wf9)) :: (af, .inl (G.2.2.1 0, 10, .inl ff9)) :: (av, .inl (G.2.2.1 0, 10, .inl vf9)) :: (at_, .inl (G.2.2.1 0, 10, .inl tf9)) :: W0)) s _ _ := hW
                    rcases h_ with ⟨rfl, hd⟩ | ⟨rfl, hd⟩
                    · have hd : disA S.1 (((cF S.1).getD k0 dF).1) t9 = true := by unfold disA; rw [← disB_cg (wd := wdF S.1) m1.2 (wdF_ok hI) b0 hokf]; exact hd
                      refine lv_if_ne (tgt := 130) hx hb dX4_claim_121 (by decide) (fun c_121 => ?_) (fun c_121 => absurd c_121 (by decide))
                      refine lv_aload_n hx hb dX4_claim_130 rfl (lv_at hl 1 rfl) ?_
                      refine gM0_claims hF hW q1102 (v := nI (cC S.1).length) (m8) dX4_claim_131 ?_
                      refine lv_bipush (v := 40) hx hb dX4_claim_134 (by decide) ?_
                      refine lv_icmp_ne (tgt := 145) hx hb dX4_claim_136 (by decide) (fun c_136 => ?_) (fun c_136 => ?_)
                      · have hfl : ¬ (cC S.1).length = 40 := fun z => c_136 (by rw [z]; rfl)
                        have hml : ∀ z ∈ T, z ∈ T ++ [(qo_32, .inr (22, [.int (nI t9.1.length), .int (nI t9.2.2.length), .ref an, .ref aw, .ref af, .ref av, .ref at_])), (an, .inl (G.2.2.1 3, 8, .inr (.inl nf9))), (aw, .inl (G.2.2.1 0, 8, .inl wf9)), (af, .inl (G.2.2.1 0, 10, .inl ff9)), (av, .inl (G.2.2.1 0, 10, .inl vf9)), (at_, .inl (G.2.2.1 0, 10, .inl tf9))] := fun z h => List.mem_append_left _ h
                        have hmt : MT G (T ++ [(qo_32, .inr (22, [.int (nI t9.1.length), .int (nI t9.2.2.length), .ref an, .ref aw, .ref af, .ref av, .ref at_])), (an, .inl (G.2.2.1 3, 8, .inr (.inl nf9))), (aw, .inl (G.2.2.1 0, 8, .inl wf9)), (af, .inl (G.2.2.1 0, 10, .inl ff9)), (av, .inl (G.2.2.1 0, 10, .inl vf9)), (at_, .inl (G.2.2.1 0, 10, .inl tf9))]) qo_32 t9 := ⟨an, aw, af, av, at_, nf9, wf9, ff9, vf9, tf9, List.mem_append_right _ (List.mem_of_getElem? (i := 0) rfl), List.mem_append_right _ (List.mem_of_getElem? (i := 1) rfl), List.mem_append_right _ (List.mem_of_getElem? (i := 2) rfl), List.mem_append_right _ (List.mem_of_getElem? (i := 3) rfl), List.mem_append_right _ (List.mem_of_getElem? (i := 4) rfl), List.mem_append_right _ (List.mem_of_getElem? (i := 5) rfl), ht9⟩
                        refine lv_aload_n hx hb dX4_claim_145 rfl (lv_at hl 1 rfl) ?_
                        refine gM0_claim hF hW q1110 dX4_claim_146 ?_
                        refine lv_aload_n hx hb dX4_claim_149 rfl (lv_at hl 1 rfl) ?_
                        refine gM0_claims hF hW q1102 (v := nI (cC S.1).length) (m8) dX4_claim_150 ?_
                        refine lv_aload hx hb dX4_claim_153 (lv_at hl 0 rfl) ?_
                        refine sM6 hF hW (ms_r (List.mem_of_getElem? (i := 0) rfl)) (ci := 22) rfl rfl (j := (cC S.1).length) (rfl) (by omega) dX4_claim_155 (fun H locs hW => ?_)
                        have hW : pM G (MWl G ad (xr (mfx (mdx (xi (xi (xi y 0 0) 3 0) 11 0) v2 lt2) w2 go2 fi2) 3 (va_up ((mfx (mdx (xi (xi (xi y 0 0) 3 0) 11 0) v2 lt2) w2 go2 fi2).2.2.1 3) ((cC S.1).length) (some qo_32))) ++ ((qo_32, .inr (22, [.int (nI t9.1.length), .int (nI t9.2.2.length), .ref an, .ref aw, .ref af, .ref av, .ref at_])) :: (an, .inl (G.2.2.1 3, 8, .inr (.inl nf9))) :: (aw, .inl (G.2.2.1 0, 8, .inl wf9)) :: (af, .inl (G.2.2.1 0, 10, .inl ff9)) :: (av, .inl (G.2.2.1 0, 10, .inl vf9)) :: (at_, .inl (G.2.2.1 0, 10, .inl tf9)) :: W0)) s _ _ := hW
                        refine lv_aload_n hx hb dX4_claim_156 rfl (lv_at hl 1 rfl) ?_
                        refine gM0_claimFile hF hW q1116 dX4_claim_157 ?_
                        refine lv_aload_n hx hb dX4_claim_160 rfl (lv_at hl 1 rfl) ?_
                        refine gM0_claims hF hW q1102 (v := nI (cC S.1).length) (m8) dX4_claim_161 ?_
                        refine lv_iload_n hx hb dX4_claim_164 rfl (lv_at hl 2 rfl) ?_
                        refine sM12 hF hW (j := (cC S.1).length) (rfl) (by omega) dX4_claim_165 (fun H locs hW => ?_)
                        have hW : pM G (MWl G ad (xr (xa (mfx (mdx (xi (xi (xi y 0 0) 3 0) 11 0) v2 lt2) w2 go2 fi2) 6 (va_up ((mfx (mdx (xi (xi (xi y 0 0) 3 0) 11 0) v2 lt2) w2 go2 fi2).2.1 6) ((cC S.1).length) (nI k0))) 3 (va_up ((mfx (mdx (xi (xi (xi y 0 0) 3 0) 11 0) v2 lt2) w2 go2 fi2).2.2.1 3) ((cC S.1).length) (some qo_32))) ++ ((qo_32, .inr (22, [.int (nI t9.1.length), .int (nI t9.2.2.length), .ref an, .ref aw, .ref af, .ref av, .ref at_])) :: (an, .inl (G.2.2.1 3, 8, .inr (.inl nf9))) :: (aw, .inl (G.2.2.1 0, 8, .inl wf9)) :: (af, .inl (G.2.2.1 0, 10, .inl ff9)) :: (av, .inl (G.2.2.1 0, 10, .inl vf9)) :: (at_, .inl (G.2.2.1 0, 10, .inl tf9)) :: W0)) s _ _ := hW
                        refine lv_aload_n hx hb dX4_claim_166 rfl (lv_at hl 1 rfl) ?_
                        refine gM0_claimOn hF hW q1117 dX4_claim_167 ?_
                        refine lv_aload_n hx hb dX4_claim_170 rfl (lv_at hl 1 rfl) ?_
                        refine gM0_claims hF hW q1102 (v := nI (cC S.1).length) (m8) dX4_claim_171 ?_
                        refine lv_iload_n hx hb dX4_claim_174 rfl (lv_at hl 3 rfl) ?_
                        refine sM13 hF hW (j := (cC S.1).length) (rfl) (by omega) dX4_claim_175 (fun H locs hW => ?_)
                        have hW : pM G (MWl G ad (xr (xa (xa (mfx (mdx (xi (xi (xi y 0 0) 3 0) 11 0) v2 lt2) w2 go2 fi2) 6 (va_up ((mfx (mdx (xi (xi (xi y 0 0) 3 0) 11 0) v2 lt2) w2 go2 fi2).2.1 6) ((cC S.1).length) (nI k0))) 7 (va_up ((mfx (mdx (xi (xi (xi y 0 0) 3 0) 11 0) v2 lt2) w2 go2 fi2).2.1 7) ((cC S.1).length) (nI ko))) 3 (va_up ((mfx (mdx (xi (xi (xi y 0 0) 3 0) 11 0) v2 lt2) w2 go2 fi2).2.2.1 3) ((cC S.1).length) (some qo_32))) ++ ((qo_32, .inr (22, [.int (nI t9.1.length), .int (nI t9.2.2.length), .ref an, .ref aw, .ref af, .ref av, .ref at_])) :: (an, .inl (G.2.2.1 3, 8, .inr (.inl nf9))) :: (aw, .inl (G.2.2.1 0, 8, .inl wf9)) :: (af, .inl (G.2.2.1 0, 10, .inl ff9)) :: (av, .inl (G.2.2.1 0, 10, .inl vf9)) :: (at_, .inl (G.2.2.1 0, 10, .inl tf9)) :: W0)) s _ _ := hW
                        refine lv_aload_n hx hb dX4_claim_176 rfl (lv_at hl 1 rfl) ?_
                        refine gM0_claimKnown hF hW q1118 dX4_claim_177 ?_
                        refine lv_aload_n hx hb dX4_claim_180 rfl (lv_at hl 1 rfl) ?_
                        refine gM0_claims hF hW q1102 (v := nI (cC S.1).length) (m8) dX4_claim_181 ?_
                        refine lv_aload_n hx hb dX4_claim_184 rfl (lv_at hl 1 rfl) ?_
                        refine gM0_now hF hW q1104 (v := nI (cN S.1)) (m10) dX4_claim_185 ?_
                        refine sM14 hF hW (j := (cC S.1).length) (rfl) (by omega) dX4_claim_188 (fun H locs hW => ?_)
                        have hW : pM G (MWl G ad (xr (xa (xa (xa (mfx (mdx (xi (xi (xi y 0 0) 3 0) 11 0) v2 lt2) w2 go2 fi2) 6 (va_up ((mfx (mdx (xi (xi (xi y 0 0) 3 0) 11 0) v2 lt2) w2 go2 fi2).2.1 6) ((cC S.1).length) (nI k0))) 7 (va_up ((mfx (mdx (xi (xi (xi y 0 0) 3 0) 11 0) v2 lt2) w2 go2 fi2).2.1 7) ((cC S.1).length) (nI ko))) 8 (va_up ((mfx (mdx (xi (xi (xi y 0 0) 3 0) 11 0) v2 lt2) w2 go2 fi2).2.1 8) ((cC S.1).length) (nI (cN S.1)))) 3 (va_up ((mfx (mdx (xi (xi (xi y 0 0) 3 0) 11 0) v2 lt2) w2 go2 fi2).2.2.1 3) ((cC S.1).length) (some qo_32))) ++ ((qo_32, .inr (22, [.int (nI t9.1.length), .int (nI t9.2.2.length), .ref an, .ref aw, .ref af, .ref av, .ref at_])) :: (an, .inl (G.2.2.1 3, 8, .inr (.inl nf9))) :: (aw, .inl (G.2.2.1 0, 8, .inl wf9)) :: (af, .inl (G.2.2.1 0, 10, .inl ff9)) :: (av, .inl (G.2.2.1 0, 10, .inl vf9)) :: (at_, .inl (G.2.2.1 0, 10, .inl tf9)) :: W0)) s _ _ := hW
                        refine lv_aload_n hx hb dX4_claim_189 rfl (lv_at hl 1 rfl) ?_
                        refine gM0_grantDay hF hW q1119 dX4_claim_190 ?_
                        refine lv_aload_n hx hb dX4_claim_193 rfl (lv_at hl 1 rfl) ?_
                        refine gM0_claims hF hW q1102 (v := nI (cC S.1).length) (m8) dX4_claim_194 ?_
                        refine lv_iconst (v := (-1)) hx hb dX4_claim_197 (by decide) ?_
                        refine sM15 hF hW (j := (cC S.1).length) (rfl) (by omega) dX4_claim_198 (fun H locs hW => ?_)
                        have hW : pM G (MWl G ad (xr (xa (xa (xa (xa (mfx (mdx (xi (xi (xi y 0 0) 3 0) 11 0) v2 lt2) w2 go2 fi2) 6 (va_up ((mfx (mdx (xi (xi (xi y 0 0) 3 0) 11 0) v2 lt2) w2 go2 fi2).2.1 6) ((cC S.1).length) (nI k0))) 7 (va_up ((mfx (mdx (xi (xi (xi y 0 0) 3 0) 11 0) v2 lt2) w2 go2 fi2).2.1 7) ((cC S.1).length) (nI ko))) 8 (va_up ((mfx (mdx (xi (xi (xi y 0 0) 3 0) 11 0) v2 lt2) w2 go2 fi2).2.1 8) ((cC S.1).length) (nI (cN S.1)))) 9 (va_up ((mfx (mdx (xi (xi (xi y 0 0) 3 0) 11 0) v2 lt2) w2 go2 fi2).2.1 9) ((cC S.1).length) (-1))) 3 (va_up ((mfx (mdx (xi (xi (xi y 0 0) 3 0) 11 0) v2 lt2) w2 go2 fi2).2.2.1 3) ((cC S.1).length) (some qo_32))) ++ ((qo_32, .inr (22, [.int (nI t9.1.length), .int (nI t9.2.2.length), .ref an, .ref aw, .ref af, .ref av, .ref at_])) :: (an, .inl (G.2.2.1 3, 8, .inr (.inl nf9))) :: (aw, .inl (G.2.2.1 0, 8, .inl wf9)) :: (af, .inl (G.2.2.1 0, 10, .inl ff9)) :: (av, .inl (G.2.2.1 0, 10, .inl vf9)) :: (at_, .inl (G.2.2.1 0, 10, .inl tf9)) :: W0)) s _ _ := hW
                        refine lv_aload_n hx hb dX4_claim_199 rfl (lv_at hl 1 rfl) ?_
                        refine gM0_dropDay hF hW q1120 dX4_claim_200 ?_
                        refine lv_aload_n hx hb dX4_claim_203 rfl (lv_at hl 1 rfl) ?_
                        refine gM0_claims hF hW q1102 (v := nI (cC S.1).length) (m8) dX4_claim_204 ?_
                        refine lv_iconst (v := (-1)) hx hb dX4_claim_207 (by decide) ?_
                        refine sM16 hF hW (j := (cC S.1).length) (rfl) (by omega) dX4_claim_208 (fun H locs hW => ?_)
                        have hW : pM G (MWl G ad (xr (xa (xa (xa (xa (xa (mfx (mdx (xi (xi (xi y 0 0) 3 0) 11 0) v2 lt2) w2 go2 fi2) 6 (va_up ((mfx (mdx (xi (xi (xi y 0 0) 3 0) 11 0) v2 lt2) w2 go2 fi2).2.1 6) ((cC S.1).length) (nI k0))) 7 (va_up ((mfx (mdx (xi (xi (xi y 0 0) 3 0) 11 0) v2 lt2) w2 go2 fi2).2.1 7) ((cC S.1).length) (nI ko))) 8 (va_up ((mfx (mdx (xi (xi (xi y 0 0) 3 0) 11 0) v2 lt2) w2 go2 fi2).2.1 8) ((cC S.1).length) (nI (cN S.1)))) 9 (va_up ((mfx (mdx (xi (xi (xi y 0 0) 3 0) 11 0) v2 lt2) w2 go2 fi2).2.1 9) ((cC S.1).length) (-1))) 10 (va_up ((mfx (mdx (xi (xi (xi y 0 0) 3 0) 11 0) v2 lt2) w2 go2 fi2).2.1 10) ((cC S.1).length) (-1))) 3 (va_up ((mfx (mdx (xi (xi (xi y 0 0) 3 0) 11 0) v2 lt2) w2 go2 fi2).2.2.1 3) ((cC S.1).length) (some qo_32))) ++ ((qo_32, .inr (22, [.int (nI t9.1.length), .int (nI t9.2.2.length), .ref an, .ref aw, .ref af, .ref av, .ref at_])) :: (an, .inl (G.2.2.1 3, 8, .inr (.inl nf9))) :: (aw, .inl (G.2.2.1 0, 8, .inl wf9)) :: (af, .inl (G.2.2.1 0, 10, .inl ff9)) :: (av, .inl (G.2.2.1 0, 10, .inl vf9)) :: (at_, .inl (G.2.2.1 0, 10, .inl tf9)) :: W0)) s _ _ := hW
                        refine lv_aload_n hx hb dX4_claim_209 rfl (lv_at hl 1 rfl) ?_
                        refine lv_iconst (v := 5) hx hb dX4_claim_210 (by decide) ?_
                        refine lv_iconst (v := 0) hx hb dX4_claim_211 (by decide) ?_
                        refine lv_null hx hb dX4_claim_212 ?_
                        refine cl_v (ru_V (As := [.int 5, .int 0, .null]) (rest := []) hF (mX4_act_n l G ad (xr (xa (xa (xa (xa (xa (mfx (mdx (xi (xi (xi y 0 0) 3 0) 11 0) v2 lt2) w2 go2 fi2) 6 (va_up ((mfx (mdx (xi (xi (xi y 0 0) 3 0) 11 0) v2 lt2) w2 go2 fi2).2.1 6) ((cC S.1).length) (nI k0))) 7 (va_up ((mfx (mdx (xi (xi (xi y 0 0) 3 0) 11 0) v2 lt2) w2 go2 fi2).2.1 7) ((cC S.1).length) (nI ko))) 8 (va_up ((mfx (mdx (xi (xi (xi y 0 0) 3 0) 11 0) v2 lt2) w2 go2 fi2).2.1 8) ((cC S.1).length) (nI (cN S.1)))) 9 (va_up ((mfx (mdx (xi (xi (xi y 0 0) 3 0) 11 0) v2 lt2) w2 go2 fi2).2.1 9) ((cC S.1).length) (-1))) 10 (va_up ((mfx (mdx (xi (xi (xi y 0 0) 3 0) 11 0) v2 lt2) w2 go2 fi2).2.1 10) ((cC S.1).length) (-1))) 3 (va_up ((mfx (mdx (xi (xi (xi y 0 0) 3 0) 11 0) v2 lt2) w2 go2 fi2).2.2.1 3) ((cC S.1).length) (some qo_32))) ((qo_32, .inr (22, [.int (nI t9.1.length), .int (nI t9.2.2.length), .ref an, .ref aw, .ref af, .ref av, .ref at_])) :: (an, .inl (G.2.2.1 3, 8, .inr (.inl nf9))) :: (aw, .inl (G.2.2.1 0, 8, .inl wf9)) :: (af, .inl (G.2.2.1 0, 10, .inl ff9)) :: (av, .inl (G.2.2.1 0, 10, .inl vf9)) :: (at_, .inl (G.2.2.1 0, 10, .inl tf9)) :: W0) S.2.1.length (by omega) (m11) 5 0) (cwV 3 hts (lw_V q1283 q1285 qs35 q66 q1286) rfl rfl rfl (by decide +kernel) ⟨lb hR1 rfl, lb hR4 rfl⟩) hW (List.mem_of_getElem? (i := 0) rfl) (ci := 20) rfl rfl rfl hl.1 rfl (lv_room (Nat.le_of_ble_eq_true rfl)) dX4_claim_213 ⟨by omega, by omega⟩) hW (fun u_37 H locs h_38 hW => ?_)
                        obtain rfl : u_37 = _ := h_38
                        have hW : pM G (MWl G ad (xr (xr (xa (xa (xa (xa (xa (xa (xa (xi (mfx (mdx (xi (xi (xi y 0 0) 3 0) 11 0) v2 lt2) w2 go2 fi2) 10 (nI (S.2.1.length + 1))) 6 (va_up ((mfx (mdx (xi (xi (xi y 0 0) 3 0) 11 0) v2 lt2) w2 go2 fi2).2.1 6) ((cC S.1).length) (nI k0))) 7 (va_up ((mfx (mdx (xi (xi (xi y 0 0) 3 0) 11 0) v2 lt2) w2 go2 fi2).2.1 7) ((cC S.1).length) (nI ko))) 8 (va_up ((mfx (mdx (xi (xi (xi y 0 0) 3 0) 11 0) v2 lt2) w2 go2 fi2).2.1 8) ((cC S.1).length) (nI (cN S.1)))) 9 (va_up ((mfx (mdx (xi (xi (xi y 0 0) 3 0) 11 0) v2 lt2) w2 go2 fi2).2.1 9) ((cC S.1).length) (-1))) 10 (va_up ((mfx (mdx (xi (xi (xi y 0 0) 3 0) 11 0) v2 lt2) w2 go2 fi2).2.1 10) ((cC S.1).length) (-1))) 11 (va_up ((mfx (mdx (xi (xi (xi y 0 0) 3 0) 11 0) v2 lt2) w2 go2 fi2).2.1 11) S.2.1.length 5)) 12 (va_up ((mfx (mdx (xi (xi (xi y 0 0) 3 0) 11 0) v2 lt2) w2 go2 fi2).2.1 12) S.2.1.length 0)) 3 (va_up ((mfx (mdx (xi (xi (xi y 0 0) 3 0) 11 0) v2 lt2) w2 go2 fi2).2.2.1 3) ((cC S.1).length) (some qo_32))) 4 (va_up ((mfx (mdx (xi (xi (xi y 0 0) 3 0) 11 0) v2 lt2) w2 go2 fi2).2.2.1 4) S.2.1.length none)) ++ ((qo_32, .inr (22, [.int (nI t9.1.length), .int (nI t9.2.2.length), .ref an, .ref aw, .ref af, .ref av, .ref at_])) :: (an, .inl (G.2.2.1 3, 8, .inr (.inl nf9))) :: (aw, .inl (G.2.2.1 0, 8, .inl wf9)) :: (af, .inl (G.2.2.1 0, 10, .inl ff9)) :: (av, .inl (G.2.2.1 0, 10, .inl vf9)) :: (at_, .inl (G.2.2.1 0, 10, .inl tf9)) :: W0)) s _ _ := hW
                        refine lv_aload_n hx hb dX4_claim_216 rfl (lv_at hl 1 rfl) ?_
                        refine lv_dup hx hb dX4_claim_217 rfl ?_
                        refine gM0_claims hF hW q1102 (v := nI (cC S.1).length) (m8) dX4_claim_218 ?_
                        refine lv_iconst (v := 1) hx hb dX4_claim_221 (by decide) ?_
                        refine lv_iadd hx hb dX4_claim_222 ?_
                        refine lv_eqi (show (nI (cC S.1).length) + 1 = nI ((cC S.1).length + 1) from nI_add ((cC S.1).length) 1) ?_
                        refine pM0_claims hF hW q1102 dX4_claim_223 (fun H locs hW => ?_)
                        have hW : pM G (MWl G ad (xr (xr (xa (xa (xa (xa (xa (xa (xa (xi (xi (mfx (mdx (xi (xi (xi y 0 0) 3 0) 11 0) v2 lt2) w2 go2 fi2) 7 (nI ((cC S.1).length + 1))) 10 (nI (S.2.1.length + 1))) 6 (va_up ((mfx (mdx (xi (xi (xi y 0 0) 3 0) 11 0) v2 lt2) w2 go2 fi2).2.1 6) ((cC S.1).length) (nI k0))) 7 (va_up ((mfx (mdx (xi (xi (xi y 0 0) 3 0) 11 0) v2 lt2) w2 go2 fi2).2.1 7) ((cC S.1).length) (nI ko))) 8 (va_up ((mfx (mdx (xi (xi (xi y 0 0) 3 0) 11 0) v2 lt2) w2 go2 fi2).2.1 8) ((cC S.1).length) (nI (cN S.1)))) 9 (va_up ((mfx (mdx (xi (xi (xi y 0 0) 3 0) 11 0) v2 lt2) w2 go2 fi2).2.1 9) ((cC S.1).length) (-1))) 10 (va_up ((mfx (mdx (xi (xi (xi y 0 0) 3 0) 11 0) v2 lt2) w2 go2 fi2).2.1 10) ((cC S.1).length) (-1))) 11 (va_up ((mfx (mdx (xi (xi (xi y 0 0) 3 0) 11 0) v2 lt2) w2 go2 fi2).2.1 11) S.2.1.length 5)) 12 (va_up ((mfx (mdx (xi (xi (xi y 0 0) 3 0) 11 0) v2 lt2) w2 go2 fi2).2.1 12) S.2.1.length 0)) 3 (va_up ((mfx (mdx (xi (xi (xi y 0 0) 3 0) 11 0) v2 lt2) w2 go2 fi2).2.2.1 3) ((cC S.1).length) (some qo_32))) 4 (va_up ((mfx (mdx (xi (xi (xi y 0 0) 3 0) 11 0) v2 lt2) w2 go2 fi2).2.2.1 4) S.2.1.length none)) ++ ((qo_32, .inr (22, [.int (nI t9.1.length), .int (nI t9.2.2.length), .ref an, .ref aw, .ref af, .ref av, .ref at_])) :: (an, .inl (G.2.2.1 3, 8, .inr (.inl nf9))) :: (aw, .inl (G.2.2.1 0, 8, .inl wf9)) :: (af, .inl (G.2.2.1 0, 10, .inl ff9)) :: (av, .inl (G.2.2.1 0, 10, .inl vf9)) :: (at_, .inl (G.2.2.1 0, 10, .inl tf9)) :: W0)) s _ _ := hW
                        refine lv_aload_n hx hb dX4_claim_226 rfl (lv_at hl 1 rfl) ?_
                        refine lv_aload_n hx hb dX4_claim_227 rfl (lv_at hl 1 rfl) ?_
                        refine gM0_claims hF hW q1102 (v := nI ((cC S.1).length + 1)) (rfl) dX4_claim_228 ?_
                        refine lv_iconst (v := 1) hx hb dX4_claim_231 (by decide) ?_
                        refine lv_isub hx hb dX4_claim_232 ?_
                        refine lv_eqi (show (nI ((cC S.1).length + 1)) - 1 = nI (cC S.1).length from nI_m1 _) ?_
                        refine cl_i (ru_V (As := [.int (nI (cC S.1).length)]) (rest := []) hF (mX4_done l G ad (xr (xr (xa (xa (xa (xa (xa (xa (xa (xi (xi (mfx (mdx (xi (xi (xi y 0 0) 3 0) 11 0) v2 lt2) w2 go2 fi2) 7 (nI ((cC S.1).length + 1))) 10 (nI (S.2.1.length + 1))) 6 (va_up ((mfx (mdx (xi (xi (xi y 0 0) 3 0) 11 0) v2 lt2) w2 go2 fi2).2.1 6) ((cC S.1).length) (nI k0))) 7 (va_up ((mfx (mdx (xi (xi (xi y 0 0) 3 0) 11 0) v2 lt2) w2 go2 fi2).2.1 7) ((cC S.1).length) (nI ko))) 8 (va_up ((mfx (mdx (xi (xi (xi y 0 0) 3 0) 11 0) v2 lt2) w2 go2 fi2).2.1 8) ((cC S.1).length) (nI (cN S.1)))) 9 (va_up ((mfx (mdx (xi (xi (xi y 0 0) 3 0) 11 0) v2 lt2) w2 go2 fi2).2.1 9) ((cC S.1).length) (-1))) 10 (va_up ((mfx (mdx (xi (xi (xi y 0 0) 3 0) 11 0) v2 lt2) w2 go2 fi2).2.1 10) ((cC S.1).length) (-1))) 11 (va_up ((mfx (mdx (xi (xi (xi y 0 0) 3 0) 11 0) v2 lt2) w2 go2 fi2).2.1 11) S.2.1.length 5)) 12 (va_up ((mfx (mdx (xi (xi (xi y 0 0) 3 0) 11 0) v2 lt2) w2 go2 fi2).2.1 12) S.2.1.length 0)) 3 (va_up ((mfx (mdx (xi (xi (xi y 0 0) 3 0) 11 0) v2 lt2) w2 go2 fi2).2.2.1 3) ((cC S.1).length) (some qo_32))) 4 (va_up ((mfx (mdx (xi (xi (xi y 0 0) 3 0) 11 0) v2 lt2) w2 go2 fi2).2.2.1 4) S.2.1.length none)) ((qo_32, .inr (22, [.int (nI t9.1.length), .int (nI t9.2.2.length), .ref an, .ref aw, .ref af, .ref av, .ref at_])) :: (an, .inl (G.2.2.1 3, 8, .inr (.inl nf9))) :: (aw, .inl (G.2.2.1 0, 8, .inl wf9)) :: (af, .inl (G.2.2.1 0, 10, .inl ff9)) :: (av, .inl (G.2.2.1 0, 10, .inl vf9)) :: (at_, .inl (G.2.2.1 0, 10, .inl tf9)) :: W0) (nI (cC S.1).length)) (cwV 1 hts (lw_V q1287 q1289 qs36 q66 q1290) rfl rfl rfl (by decide +kernel) ⟨lb hR1 rfl, lb hR4 rfl⟩) hW (List.mem_of_getElem? (i := 0) rfl) (ci := 20) rfl rfl rfl hl.1 rfl (lv_room (Nat.le_of_ble_eq_true rfl)) dX4_claim_233 ⟨by omega, by omega⟩) hW (fun r_39 u_40 H locs h_41 hW => ?_)
                        obtain ⟨rfl, rfl⟩ : r_39 = nI (cC S.1).length ∧ u_40 = _ := h_41
                        have hW : pM G (MWl G ad (xr (xr (xa (xa (xa (xa (xa (xa (xa (xi (xi (xi (xi (mfx (mdx (xi (xi (xi y 0 0) 3 0) 11 0) v2 lt2) w2 go2 fi2) 1 0) 2 (-1)) 7 (nI ((cC S.1).length + 1))) 10 (nI (S.2.1.length + 1))) 6 (va_up ((mfx (mdx (xi (xi (xi y 0 0) 3 0) 11 0) v2 lt2) w2 go2 fi2).2.1 6) ((cC S.1).length) (nI k0))) 7 (va_up ((mfx (mdx (xi (xi (xi y 0 0) 3 0) 11 0) v2 lt2) w2 go2 fi2).2.1 7) ((cC S.1).length) (nI ko))) 8 (va_up ((mfx (mdx (xi (xi (xi y 0 0) 3 0) 11 0) v2 lt2) w2 go2 fi2).2.1 8) ((cC S.1).length) (nI (cN S.1)))) 9 (va_up ((mfx (mdx (xi (xi (xi y 0 0) 3 0) 11 0) v2 lt2) w2 go2 fi2).2.1 9) ((cC S.1).length) (-1))) 10 (va_up ((mfx (mdx (xi (xi (xi y 0 0) 3 0) 11 0) v2 lt2) w2 go2 fi2).2.1 10) ((cC S.1).length) (-1))) 11 (va_up ((mfx (mdx (xi (xi (xi y 0 0) 3 0) 11 0) v2 lt2) w2 go2 fi2).2.1 11) S.2.1.length 5)) 12 (va_up ((mfx (mdx (xi (xi (xi y 0 0) 3 0) 11 0) v2 lt2) w2 go2 fi2).2.1 12) S.2.1.length 0)) 3 (va_up ((mfx (mdx (xi (xi (xi y 0 0) 3 0) 11 0) v2 lt2) w2 go2 fi2).2.2.1 3) ((cC S.1).length) (some qo_32))) 4 (va_up ((mfx (mdx (xi (xi (xi y 0 0) 3 0) 11 0) v2 lt2) w2 go2 fi2).2.2.1 4) S.2.1.length none)) ++ ((qo_32, .inr (22, [.int (nI t9.1.length), .int (nI t9.2.2.length), .ref an, .ref aw, .ref af, .ref av, .ref at_])) :: (an, .inl (G.2.2.1 3, 8, .inr (.inl nf9))) :: (aw, .inl (G.2.2.1 0, 8, .inl wf9)) :: (af, .inl (G.2.2.1 0, 10, .inl ff9)) :: (av, .inl (G.2.2.1 0, 10, .inl vf9)) :: (at_, .inl (G.2.2.1 0, 10, .inl tf9)) :: W0)) s _ _ := hW
                        exact re_i hF hRt hLk hQ (by omega) (by omega) dX4_claim_236 ((xr (xr (xa (xa (xa (xa (xa (xa (xa (xi (xi (xi (xi (mfx (mdx (xi (xi (xi y 0 0) 3 0) 11 0) v2 lt2) w2 go2 fi2) 1 0) 2 (-1)) 7 (nI ((cC S.1).length + 1))) 10 (nI (S.2.1.length + 1))) 6 (va_up ((mfx (mdx (xi (xi (xi y 0 0) 3 0) 11 0) v2 lt2) w2 go2 fi2).2.1 6) ((cC S.1).length) (nI k0))) 7 (va_up ((mfx (mdx (xi (xi (xi y 0 0) 3 0) 11 0) v2 lt2) w2 go2 fi2).2.1 7) ((cC S.1).length) (nI ko))) 8 (va_up ((mfx (mdx (xi (xi (xi y 0 0) 3 0) 11 0) v2 lt2) w2 go2 fi2).2.1 8) ((cC S.1).length) (nI (cN S.1)))) 9 (va_up ((mfx (mdx (xi (xi (xi y 0 0) 3 0) 11 0) v2 lt2) w2 go2 fi2).2.1 9) ((cC S.1).length) (-1))) 10 (va_up ((mfx (mdx (xi (xi (xi y 0 0) 3 0) 11 0) v2 lt2) w2 go2 fi2).2.1 10) ((cC S.1).length) (-1))) 11 (va_up ((mfx (mdx (xi (xi (xi y 0 0) 3 0) 11 0) v2 lt2) w2 go2 fi2).2.1 11) S.2.1.length 5)) 12 (va_up ((mfx (mdx (xi (xi (xi y 0 0) 3 0) 11 0) v2 lt2) w2 go2 fi2).2.1 12) S.2.1.length 0)) 3 (va_up ((mfx (mdx (xi (xi (xi y 0 0) 3 0) 11 0) v2 lt2) w2 go2 fi2).2.2.1 3) ((cC S.1).length) (some qo_32))) 4 (va_up ((mfx (mdx (xi (xi (xi y 0 0) 3 0) 11 0) v2 lt2) w2 go2 fi2).2.2.1 4) S.2.1.length none)), [(qo_32, .inr (22, [.int (nI t9.1.length), .int (nI t9.2.2.length), .ref an, .ref aw, .ref af, .ref av, .ref at_])), (an, .inl (G.2.2.1 3, 8, .inr (.inl nf9))), (aw, .inl (G.2.2.1 0, 8, .inl wf9)), (af, .inl (G.2.2.1 0, 10, .inl ff9)), (av, .inl (G.2.2.1 0, 10, .inl vf9)), (at_, .inl (G.2.2.1 0, 10, .inl tf9))]) (by unfold claimS; rw [hi0, hio]; dsimp only; rw [if_neg hoff, hi1]; dsimp only; rw [show readS S k1 6 8 (baseT S.1 (some ko)) = _ from hrd]; dsimp only; rw [if_neg (by rw [hd]; decide), if_neg hfl]; exact ⟨rfl, ⟨m0, m1, m2, m3.mono hml, m4, m5.mono hml, m6, m7.mono hml, len_add (cC S.1) _, ClaR.add (t := t9) (fi := k0) (on := (some ko)) (kn := cN S.1) (m9.mono hml) hmt, m10, rfl, ActM.add (a := (5, 0, 0, nT)) (m12.mono hml) (fun z => nomatch z), rfl, m14, rfl, rfl, rfl, m18, m19, m20, m21, m22⟩⟩) (pM.swp [(qo_32, .inr (22, [.int (nI t9.1.length), .int (nI t9.2.2.length), .ref an, .ref aw, .ref af, .ref av, .ref at_])), (an, .inl (G.2.2.1 3, 8, .inr (.inl nf9))), (aw, .inl (G.2.2.1 0, 8, .inl wf9)), (af, .inl (G.2.2.1 0, 10, .inl ff9)), (av, .inl (G.2.2.1 0, 10, .inl vf9)), (at_, .inl (G.2.2.1 0, 10, .inl tf9))] hW)
                      · have hfl : (cC S.1).length = 40 := eq_eq (b := 40) c_136
                        refine lv_aload_n hx hb dX4_claim_139 rfl (lv_at hl 1 rfl) ?_
                        refine lv_iconst (v := 3) hx hb dX4_claim_140 (by decide) ?_
                        refine cl_i (ru_V (As := [.int 3]) (rest := []) hF (mX4_refused l G ad (mfx (mdx (xi (xi (xi y 0 0) 3 0) 11 0) v2 lt2) w2 go2 fi2) ((qo_32, .inr (22, [.int (nI t9.1.length), .int (nI t9.2.2.length), .ref an, .ref aw, .ref af, .ref av, .ref at_])) :: (an, .inl (G.2.2.1 3, 8, .inr (.inl nf9))) :: (aw, .inl (G.2.2.1 0, 8, .inl wf9)) :: (af, .inl (G.2.2.1 0, 10, .inl ff9)) :: (av, .inl (G.2.2.1 0, 10, .inl vf9)) :: (at_, .inl (G.2.2.1 0, 10, .inl tf9)) :: W0) 3) (cwV 1 hts (lw_V q1255 q1257 qs29 q66 q1258) rfl rfl rfl (by decide +kernel) ⟨lb hR1 rfl, lb hR4 rfl⟩) hW (List.mem_of_getElem? (i := 0) rfl) (ci := 20) rfl rfl rfl hl.1 rfl (lv_room (Nat.le_of_ble_eq_true rfl)) dX4_claim_141 ⟨by omega, by omega⟩) hW (fun r_42 u_43 H locs h_44 hW => ?_)
                        obtain ⟨rfl, rfl⟩ : r_42 = (-1) ∧ u_43 = _ := h_44
                        have hW : pM G (MWl G ad (xi (xi (mfx (mdx (xi (xi (xi y 0 0) 3 0) 11 0) v2 lt2) w2 go2 fi2) 1 3) 2 (-1)) ++ ((qo_32, .inr (22, [.int (nI t9.1.length), .int (nI t9.2.2.length), .ref an, .ref aw, .ref af, .ref av, .ref at_])) :: (an, .inl (G.2.2.1 3, 8, .inr (.inl nf9))) :: (aw, .inl (G.2.2.1 0, 8, .inl wf9)) :: (af, .inl (G.2.2.1 0, 10, .inl ff9)) :: (av, .inl (G.2.2.1 0, 10, .inl vf9)) :: (at_, .inl (G.2.2.1 0, 10, .inl tf9)) :: W0)) s _ _ := hW
                        exact re_i hF hRt hLk hQ (by omega) (by omega) dX4_claim_144 ((xi (xi (mfx (mdx (xi (xi (xi y 0 0) 3 0) 11 0) v2 lt2) w2 go2 fi2) 1 3) 2 (-1)), []) (by unfold claimS; rw [hi0, hio]; dsimp only; rw [if_neg hoff, hi1]; dsimp only; rw [show readS S k1 6 8 (baseT S.1 (some ko)) = _ from hrd]; dsimp only; rw [if_neg (by rw [hd]; decide), if_pos hfl]; exact ⟨rfl, MR.nil ⟨m0, m1, m2, m3, m4, m5, m6, m7, m8, m9, m10, m11, m12, rfl, m14, rfl, rfl, rfl, m18, m19, m20, m21, m22⟩⟩) (pM.nil (pM.drop6 hW))
                    · have hd : disA S.1 (((cF S.1).getD k0 dF).1) t9 = false := by unfold disA; rw [← disB_cg (wd := wdF S.1) m1.2 (wdF_ok hI) b0 hokf]; exact hd
                      refine lv_if_ne (tgt := 130) hx hb dX4_claim_121 (by decide) (fun c_121 => absurd c_121 (by decide)) (fun c_121 => ?_)
                      refine lv_aload_n hx hb dX4_claim_124 rfl (lv_at hl 1 rfl) ?_
                      refine lv_iconst (v := 5) hx hb dX4_claim_125 (by decide) ?_
                      refine cl_i (ru_V (As := [.int 5]) (rest := []) hF (mX4_refused l G ad (mfx (mdx (xi (xi (xi y 0 0) 3 0) 11 0) v2 lt2) w2 go2 fi2) ((qo_32, .inr (22, [.int (nI t9.1.length), .int (nI t9.2.2.length), .ref an, .ref aw, .ref af, .ref av, .ref at_])) :: (an, .inl (G.2.2.1 3, 8, .inr (.inl nf9))) :: (aw, .inl (G.2.2.1 0, 8, .inl wf9)) :: (af, .inl (G.2.2.1 0, 10, .inl ff9)) :: (av, .inl (G.2.2.1 0, 10, .inl vf9)) :: (at_, .inl (G.2.2.1 0, 10, .inl tf9)) :: W0) 5) (cwV 1 hts (lw_V q1255 q1257 qs29 q66 q1258) rfl rfl rfl (by decide +kernel) ⟨lb hR1 rfl, lb hR4 rfl⟩) hW (List.mem_of_getElem? (i := 0) rfl) (ci := 20) rfl rfl rfl hl.1 rfl (lv_room (Nat.le_of_ble_eq_true rfl)) dX4_claim_126 ⟨by omega, by omega⟩) hW (fun r_45 u_46 H locs h_47 hW => ?_)
                      obtain ⟨rfl, rfl⟩ : r_45 = (-1) ∧ u_46 = _ := h_47
                      have hW : pM G (MWl G ad (xi (xi (mfx (mdx (xi (xi (xi y 0 0) 3 0) 11 0) v2 lt2) w2 go2 fi2) 1 5) 2 (-1)) ++ ((qo_32, .inr (22, [.int (nI t9.1.length), .int (nI t9.2.2.length), .ref an, .ref aw, .ref af, .ref av, .ref at_])) :: (an, .inl (G.2.2.1 3, 8, .inr (.inl nf9))) :: (aw, .inl (G.2.2.1 0, 8, .inl wf9)) :: (af, .inl (G.2.2.1 0, 10, .inl ff9)) :: (av, .inl (G.2.2.1 0, 10, .inl vf9)) :: (at_, .inl (G.2.2.1 0, 10, .inl tf9)) :: W0)) s _ _ := hW
                      exact re_i hF hRt hLk hQ (by omega) (by omega) dX4_claim_129 ((xi (xi (mfx (mdx (xi (xi (xi y 0 0) 3 0) 11 0) v2 lt2) w2 go2 fi2) 1 5) 2 (-1)), []) (by unfold claimS; rw [hi0, hio]; dsimp only; rw [if_neg hoff, hi1]; dsimp only; rw [show readS S k1 6 8 (baseT S.1 (some ko)) = _ from hrd]; dsimp only; rw [if_pos hd]; exact ⟨rfl, MR.nil ⟨m0, m1, m2, m3, m4, m5, m6, m7, m8, m9, m10, m11, m12, rfl, m14, rfl, rfl, rfl, m18, m19, m20, m21, m22⟩⟩) (pM.nil (pM.drop6 hW))
                · exact absurd ((by rw [show (xi y 0 0).1 11 = nI S.2.2.2.1 from m13]; exact ixn_in hi1 (by omega) : 0 ≤ (nI k1) ∧ (nI k1) ≤ (xi y 0 0).1 11)) h_
              · have hoff : offB S.1 (some ko) k0 = true := decide_eq_true (fun z => c_33 (by rw [z]))
                refine lv_aload_n hx hb dX4_claim_36 rfl (lv_at hl 0 rfl) ?_
                refine lv_iconst (v := 1) hx hb dX4_claim_37 (by decide) ?_
                refine cl_i (ru_V (As := [.int 1]) (rest := []) hF (mX4_refused l G ad (xi y 0 0) W0 1) (cwV 1 hts (lw_V q1255 q1257 qs29 q66 q1258) rfl rfl rfl (by decide +kernel) ⟨lb hR1 rfl, lb hR4 rfl⟩) hW (List.mem_of_getElem? (i := 0) rfl) (ci := 20) rfl rfl rfl hl.1 rfl (lv_room (Nat.le_of_ble_eq_true rfl)) dX4_claim_38 ⟨by omega, by omega⟩) hW (fun r_48 u_49 H locs h_50 hW => ?_)
                obtain ⟨rfl, rfl⟩ : r_48 = (-1) ∧ u_49 = _ := h_50
                have hW : pM G (MWl G ad (xi (xi (xi y 0 0) 1 1) 2 (-1)) ++ W0) s _ _ := hW
                exact re_i hF hRt hLk hQ (by omega) (by omega) dX4_claim_41 ((xi (xi (xi y 0 0) 1 1) 2 (-1)), []) (by unfold claimS; rw [hi0, hio]; dsimp only; rw [if_pos hoff]; exact ⟨rfl, MR.nil ⟨m0, m1, m2, m3, m4, m5, m6, m7, m8, m9, m10, m11, m12, m13, m14, rfl, m16, rfl, m18, m19, m20, m21, m22⟩⟩) (pM.nil (hW))
            · exact absurd ((by rw [show (xi y 0 0).1 7 = nI (cC S.1).length from m8]; exact ix_in (ixo_s hio).1 : 0 ≤ nI ko ∧ nI ko < (xi y 0 0).1 7)) h_
          · exact absurd ((by rw [show (xi y 0 0).1 6 = nI (cF S.1).length from m4]; exact ix_in hi0 : 0 ≤ (nI k0) ∧ (nI k0) < (xi y 0 0).1 6)) h_

theorem enc_nI {o : Option Nat} {k : Nat} (hb : ∀ j, o = some j → j < 2147483648) (hk : k < 2147483648) (h : enc o = nI k) : o = some k := by
  cases o with
  | none => exact absurd h.symm (nI_ne_m1 hk)
  | some j => rw [eq_eq (a := j) h (hb j rfl) hk]
set_option maxRecDepth 100000 in
set_option maxHeartbeats 16000000 in
theorem mX4_amend (l : Launch) (G : pG) (ad : Nat → Nat) (y : XV) (W0 T : va_W) (hT : ∀ q ∈ T, q ∈ W0) (S : AS) (n9 : Nat) (hS : SOk n9 S) (hn9 : n9 ≤ 64) (hMR : MR G T y S) (a0 a1 : Int32) : vx_Met l yX4_amend (wsW_ yX4_amend cX4_amend 7 (some .boolean) [((142 : Nat), (153 : Nat), (156 : Nat), (75 : Nat))]) ({ frames := 22, cells := 6, slots := 60, locals := 1045 } : Room) (va_Pc [.ref (ad 0), .int a0, .int a1] (fun U => pW G (MWl G ad y ++ W0) U)) (va_Qi (fun r (u : XV × va_W) => r = (amendS S a0 a1).2 ∧ MR G (T ++ u.2) u.1 (amendS S a0 a1).1) (fun (u : XV × va_W) t9 => pW G (MWl G ad u.1 ++ (W0 ++ u.2)) t9) (pA G)) (fun _ _ _ _ => False) 6 60 (pA G) := by
  refine mh (by decide) (Nat.le_of_ble_eq_true rfl) ?_
  intro pp ee R s m below meth c ls Q hF hRt hLk htab hR hQ hW hl
  have hx := hF.1
  have hb := hF.2.1
  have hts := hF.2.2.2.2
  have hR1 : R.frames = 22 := by rw [hR]
  have hR2 : R.cells = 6 := by rw [hR]
  have hR3 : R.slots = 60 := by rw [hR]
  have hR4 : R.locals = 1045 := by rw [hR]
  have hl : lv_has ls 7 [(0, .ref (ad 0)), (1, .int a0), (2, .int a1)] := hl
  have hW : pM G (MWl G ad y ++ W0) s s.heap [] := hW
  obtain ⟨m0, m1, m2, m3, m4, m5, m6, m7, m8, m9, m10, m11, m12, m13, m14, m15, m16, m17, m18, m19, m20, m21, m22⟩ := hMR
  have hI := hS.inv
  have b0 := hI.1.1
  have b1 := hI.2.1.1
  have b2 := hI.2.2.1.1
  have b3 := hI.2.2.2.1.1
  have b4 := hI.2.2.2.2.1.1
  have b5 := hI.2.2.2.2.2
  have b6 := hS.2.1
  have b7 := hS.2.2.1
  have b8 := hS.2.2.2.1
  have b9 := hS.2.2.2.2.1
  cases hi0 : ix a0 (cC S.1).length with
  | none =>
    cases hi1 : ixn a1 S.2.2.2.1 with
    | none =>
      refine lv_aload_n hx hb dX4_amend_0 rfl (lv_at hl 0 rfl) ?_
      refine lv_iconst (v := 0) hx hb dX4_amend_1 (by decide) ?_
      refine pM0_thrown hF hW q1095 dX4_amend_2 (fun H locs hW => ?_)
      have hW : pM G (MWl G ad (xi y 0 0) ++ W0) s _ _ := hW
      refine lv_aload_n hx hb dX4_amend_5 rfl (lv_at hl 0 rfl) ?_
      refine lv_iload_n hx hb dX4_amend_6 rfl (lv_at hl 1 rfl) ?_
      refine cl_i (ru_V (As := [.int a0]) (rest := []) hF (mX4_isClaim l G ad (xi y 0 0) W0 a0) (cwV 1 hts (lw_V q1354 q1356 qs45 q66 q1357) rfl rfl rfl (by decide +kernel) ⟨lb hR1 rfl, lb hR4 rfl⟩) hW (List.mem_of_getElem? (i := 0) rfl) (ci := 20) rfl rfl rfl hl.1 rfl (lv_room (Nat.le_of_ble_eq_true rfl)) dX4_amend_7 ⟨by omega, by omega⟩) hW (fun r_ u_ H locs h_ hW => ?_)
      have hW : pM G (MWl G ad (xi y 0 0) ++ W0) s _ _ := hW
      rcases h_ with ⟨rfl, h_⟩ | ⟨rfl, h_⟩
      · exact absurd h_ (fun z => ix_no hi0 (by rw [show (xi y 0 0).1 7 = nI (cC S.1).length from m8] at z; exact z))
      · refine lv_if_ne (tgt := 19) hx hb dX4_amend_10 (by decide) (fun c_10 => absurd c_10 (by decide)) (fun c_10 => ?_)
        refine lv_aload_n hx hb dX4_amend_13 rfl (lv_at hl 0 rfl) ?_
        refine lv_iconst (v := 1) hx hb dX4_amend_14 (by decide) ?_
        refine cl_i (ru_V (As := [.int 1]) (rest := []) hF (mX4_denied l G ad (xi y 0 0) W0 1) (cwV 1 hts (lw_V q1382 q1384 qs50 q66 q1385) rfl rfl rfl (by decide +kernel) ⟨lb hR1 rfl, lb hR4 rfl⟩) hW (List.mem_of_getElem? (i := 0) rfl) (ci := 20) rfl rfl rfl hl.1 rfl (lv_room (Nat.le_of_ble_eq_true rfl)) dX4_amend_15 ⟨by omega, by omega⟩) hW (fun r_1 u_2 H locs h_3 hW => ?_)
        obtain ⟨rfl, rfl⟩ : r_1 = 0 ∧ u_2 = _ := h_3
        have hW : pM G (MWl G ad (xi (xi (xi y 0 0) 1 1) 2 (-1)) ++ W0) s _ _ := hW
        exact re_z hF hRt hLk hQ (by omega) (by omega) (by decide) dX4_amend_18 ((xi (xi (xi y 0 0) 1 1) 2 (-1)), []) (by unfold amendS; rw [hi0]; exact ⟨rfl, MR.nil ⟨m0, m1, m2, m3, m4, m5, m6, m7, m8, m9, m10, m11, m12, m13, m14, rfl, m16, rfl, m18, m19, m20, m21, m22⟩⟩) (pM.nil (hW))
    | some k1 =>
      obtain ⟨hk1, rfl⟩ := ixn_some hi1 (by omega)
      refine lv_aload_n hx hb dX4_amend_0 rfl (lv_at hl 0 rfl) ?_
      refine lv_iconst (v := 0) hx hb dX4_amend_1 (by decide) ?_
      refine pM0_thrown hF hW q1095 dX4_amend_2 (fun H locs hW => ?_)
      have hW : pM G (MWl G ad (xi y 0 0) ++ W0) s _ _ := hW
      refine lv_aload_n hx hb dX4_amend_5 rfl (lv_at hl 0 rfl) ?_
      refine lv_iload_n hx hb dX4_amend_6 rfl (lv_at hl 1 rfl) ?_
      refine cl_i (ru_V (As := [.int a0]) (rest := []) hF (mX4_isClaim l G ad (xi y 0 0) W0 a0) (cwV 1 hts (lw_V q1354 q1356 qs45 q66 q1357) rfl rfl rfl (by decide +kernel) ⟨lb hR1 rfl, lb hR4 rfl⟩) hW (List.mem_of_getElem? (i := 0) rfl) (ci := 20) rfl rfl rfl hl.1 rfl (lv_room (Nat.le_of_ble_eq_true rfl)) dX4_amend_7 ⟨by omega, by omega⟩) hW (fun r_ u_ H locs h_ hW => ?_)
      have hW : pM G (MWl G ad (xi y 0 0) ++ W0) s _ _ := hW
      rcases h_ with ⟨rfl, h_⟩ | ⟨rfl, h_⟩
      · exact absurd h_ (fun z => ix_no hi0 (by rw [show (xi y 0 0).1 7 = nI (cC S.1).length from m8] at z; exact z))
      · refine lv_if_ne (tgt := 19) hx hb dX4_amend_10 (by decide) (fun c_10 => absurd c_10 (by decide)) (fun c_10 => ?_)
        refine lv_aload_n hx hb dX4_amend_13 rfl (lv_at hl 0 rfl) ?_
        refine lv_iconst (v := 1) hx hb dX4_amend_14 (by decide) ?_
        refine cl_i (ru_V (As := [.int 1]) (rest := []) hF (mX4_denied l G ad (xi y 0 0) W0 1) (cwV 1 hts (lw_V q1382 q1384 qs50 q66 q1385) rfl rfl rfl (by decide +kernel) ⟨lb hR1 rfl, lb hR4 rfl⟩) hW (List.mem_of_getElem? (i := 0) rfl) (ci := 20) rfl rfl rfl hl.1 rfl (lv_room (Nat.le_of_ble_eq_true rfl)) dX4_amend_15 ⟨by omega, by omega⟩) hW (fun r_4 u_5 H locs h_6 hW => ?_)
        obtain ⟨rfl, rfl⟩ : r_4 = 0 ∧ u_5 = _ := h_6
        have hW : pM G (MWl G ad (xi (xi (xi y 0 0) 1 1) 2 (-1)) ++ W0) s _ _ := hW
        exact re_z hF hRt hLk hQ (by omega) (by omega) (by decide) dX4_amend_18 ((xi (xi (xi y 0 0) 1 1) 2 (-1)), []) (by unfold amendS; rw [hi0]; exact ⟨rfl, MR.nil ⟨m0, m1, m2, m3, m4, m5, m6, m7, m8, m9, m10, m11, m12, m13, m14, rfl, m16, rfl, m18, m19, m20, m21, m22⟩⟩) (pM.nil (hW))
  | some k0 =>
    obtain ⟨hk0, rfl⟩ := ix_some hi0 (by omega)
    cases hi1 : ixn a1 S.2.2.2.1 with
    | none =>
      refine lv_aload_n hx hb dX4_amend_0 rfl (lv_at hl 0 rfl) ?_
      refine lv_iconst (v := 0) hx hb dX4_amend_1 (by decide) ?_
      refine pM0_thrown hF hW q1095 dX4_amend_2 (fun H locs hW => ?_)
      have hW : pM G (MWl G ad (xi y 0 0) ++ W0) s _ _ := hW
      refine lv_aload_n hx hb dX4_amend_5 rfl (lv_at hl 0 rfl) ?_
      refine lv_iload_n hx hb dX4_amend_6 rfl (lv_at hl 1 rfl) ?_
      refine cl_i (ru_V (As := [.int (nI k0)]) (rest := []) hF (mX4_isClaim l G ad (xi y 0 0) W0 (nI k0)) (cwV 1 hts (lw_V q1354 q1356 qs45 q66 q1357) rfl rfl rfl (by decide +kernel) ⟨lb hR1 rfl, lb hR4 rfl⟩) hW (List.mem_of_getElem? (i := 0) rfl) (ci := 20) rfl rfl rfl hl.1 rfl (lv_room (Nat.le_of_ble_eq_true rfl)) dX4_amend_7 ⟨by omega, by omega⟩) hW (fun r_ u_ H locs h_ hW => ?_)
      have hW : pM G (MWl G ad (xi y 0 0) ++ W0) s _ _ := hW
      rcases h_ with ⟨rfl, h_⟩ | ⟨rfl, h_⟩
      · refine lv_if_ne (tgt := 19) hx hb dX4_amend_10 (by decide) (fun c_10 => ?_) (fun c_10 => absurd c_10 (by decide))
        refine lv_aload_n hx hb dX4_amend_19 rfl (lv_at hl 0 rfl) ?_
        refine lv_iload_n hx hb dX4_amend_20 rfl (lv_at hl 2 rfl) ?_
        refine cl_i (ru_V (As := [.int a1]) (rest := []) hF (mX4_isTaped l G ad (xi y 0 0) W0 a1) (cwV 1 hts (lw_V q1259 q1261 qs30 q66 q1262) rfl rfl rfl (by decide +kernel) ⟨lb hR1 rfl, lb hR4 rfl⟩) hW (List.mem_of_getElem? (i := 0) rfl) (ci := 20) rfl rfl rfl hl.1 rfl (lv_room (Nat.le_of_ble_eq_true rfl)) dX4_amend_21 ⟨by omega, by omega⟩) hW (fun r_ u_ H locs h_ hW => ?_)
        have hW : pM G (MWl G ad (xi y 0 0) ++ W0) s _ _ := hW
        rcases h_ with ⟨rfl, h_⟩ | ⟨rfl, h_⟩
        · exact absurd h_ (fun z => ixn_no hi1 (by omega) (by rw [show (xi y 0 0).1 11 = nI S.2.2.2.1 from m13] at z; exact z))
        · refine lv_if_ne (tgt := 33) hx hb dX4_amend_24 (by decide) (fun c_24 => absurd c_24 (by decide)) (fun c_24 => ?_)
          refine lv_aload_n hx hb dX4_amend_27 rfl (lv_at hl 0 rfl) ?_
          refine lv_iconst (v := 2) hx hb dX4_amend_28 (by decide) ?_
          refine cl_i (ru_V (As := [.int 2]) (rest := []) hF (mX4_denied l G ad (xi y 0 0) W0 2) (cwV 1 hts (lw_V q1382 q1384 qs50 q66 q1385) rfl rfl rfl (by decide +kernel) ⟨lb hR1 rfl, lb hR4 rfl⟩) hW (List.mem_of_getElem? (i := 0) rfl) (ci := 20) rfl rfl rfl hl.1 rfl (lv_room (Nat.le_of_ble_eq_true rfl)) dX4_amend_29 ⟨by omega, by omega⟩) hW (fun r_7 u_8 H locs h_9 hW => ?_)
          obtain ⟨rfl, rfl⟩ : r_7 = 0 ∧ u_8 = _ := h_9
          have hW : pM G (MWl G ad (xi (xi (xi y 0 0) 1 2) 2 (-1)) ++ W0) s _ _ := hW
          exact re_z hF hRt hLk hQ (by omega) (by omega) (by decide) dX4_amend_32 ((xi (xi (xi y 0 0) 1 2) 2 (-1)), []) (by unfold amendS; rw [hi0]; dsimp only; rw [hi1]; exact ⟨rfl, MR.nil ⟨m0, m1, m2, m3, m4, m5, m6, m7, m8, m9, m10, m11, m12, m13, m14, rfl, m16, rfl, m18, m19, m20, m21, m22⟩⟩) (pM.nil (hW))
      · exact absurd ((by rw [show (xi y 0 0).1 7 = nI (cC S.1).length from m8]; exact ix_in hi0 : 0 ≤ (nI k0) ∧ (nI k0) < (xi y 0 0).1 7)) h_
    | some k1 =>
      obtain ⟨hk1, rfl⟩ := ixn_some hi1 (by omega)
      refine lv_aload_n hx hb dX4_amend_0 rfl (lv_at hl 0 rfl) ?_
      refine lv_iconst (v := 0) hx hb dX4_amend_1 (by decide) ?_
      refine pM0_thrown hF hW q1095 dX4_amend_2 (fun H locs hW => ?_)
      have hW : pM G (MWl G ad (xi y 0 0) ++ W0) s _ _ := hW
      refine lv_aload_n hx hb dX4_amend_5 rfl (lv_at hl 0 rfl) ?_
      refine lv_iload_n hx hb dX4_amend_6 rfl (lv_at hl 1 rfl) ?_
      refine cl_i (ru_V (As := [.int (nI k0)]) (rest := []) hF (mX4_isClaim l G ad (xi y 0 0) W0 (nI k0)) (cwV 1 hts (lw_V q1354 q1356 qs45 q66 q1357) rfl rfl rfl (by decide +kernel) ⟨lb hR1 rfl, lb hR4 rfl⟩) hW (List.mem_of_getElem? (i := 0) rfl) (ci := 20) rfl rfl rfl hl.1 rfl (lv_room (Nat.le_of_ble_eq_true rfl)) dX4_amend_7 ⟨by omega, by omega⟩) hW (fun r_ u_ H locs h_ hW => ?_)
      have hW : pM G (MWl G ad (xi y 0 0) ++ W0) s _ _ := hW
      rcases h_ with ⟨rfl, h_⟩ | ⟨rfl, h_⟩
      · refine lv_if_ne (tgt := 19) hx hb dX4_amend_10 (by decide) (fun c_10 => ?_) (fun c_10 => absurd c_10 (by decide))
        refine lv_aload_n hx hb dX4_amend_19 rfl (lv_at hl 0 rfl) ?_
        refine lv_iload_n hx hb dX4_amend_20 rfl (lv_at hl 2 rfl) ?_
        refine cl_i (ru_V (As := [.int (nI k1)]) (rest := []) hF (mX4_isTaped l G ad (xi y 0 0) W0 (nI k1)) (cwV 1 hts (lw_V q1259 q1261 qs30 q66 q1262) rfl rfl rfl (by decide +kernel) ⟨lb hR1 rfl, lb hR4 rfl⟩) hW (List.mem_of_getElem? (i := 0) rfl) (ci := 20) rfl rfl rfl hl.1 rfl (lv_room (Nat.le_of_ble_eq_true rfl)) dX4_amend_21 ⟨by omega, by omega⟩) hW (fun r_ u_ H locs h_ hW => ?_)
        have hW : pM G (MWl G ad (xi y 0 0) ++ W0) s _ _ := hW
        rcases h_ with ⟨rfl, h_⟩ | ⟨rfl, h_⟩
        · refine lv_if_ne (tgt := 33) hx hb dX4_amend_24 (by decide) (fun c_24 => ?_) (fun c_24 => absurd c_24 (by decide))
          refine lv_aload_n hx hb dX4_amend_33 rfl (lv_at hl 0 rfl) ?_
          refine gM0_grantDay hF hW q1119 dX4_amend_34 ?_
          refine lv_iload_n hx hb dX4_amend_37 rfl (lv_at hl 1 rfl) ?_
          refine lM15 hF hW (j := k0) (rfl) (by omega) (v := enc ((cC S.1).getD k0 dC).2.2.2.2.1) ((m9 k0 hk0).2.2.2.2.1) dX4_amend_38 ?_
          refine lv_iconst (v := (-1)) hx hb dX4_amend_39 (by decide) ?_
          refine lv_icmp_eq (tgt := 50) hx hb dX4_amend_40 (by decide) (fun c_40 => ?_) (fun c_40 => ?_)
          · have hg : ((cC S.1).getD k0 dC).2.2.2.2.1 = none := enc_m1 (gr_b hI hk0) c_40
            refine lv_iconst (v := 0) hx hb dX4_amend_50 (by decide) ?_
            refine lv_istore_n (lv' := [(3, .int 0), (0, .ref (ad 0)), (1, .int (nI k0)), (2, .int (nI k1))]) hx hb dX4_amend_51 rfl hl (by decide) rfl (fun ls hl => ?_)
            refine lv_iconst (v := 0) hx hb dX4_amend_52 (by decide) ?_
            refine lv_istore (lv' := [(4, .int 0), (3, .int 0), (0, .ref (ad 0)), (1, .int (nI k0)), (2, .int (nI k1))]) hx hb dX4_amend_53 hl (by decide) rfl (fun ls hl => ?_)
            have loop_55 : ∀ (nn : Nat) (k : Nat) (th : Int32) (H : Heap) (locs : List Loc) (ls : Array Slot), (cC S.1).length - k < nn → (k ≤ (cC S.1).length) → ((th = 1 ∧ stoodB S.1 k0 = true) ∨ (th = 0 ∧ ∀ k9, k9 < k → (fun q : Cl => decide (q.2.2.1 = some k0)) ((cC S.1).getD k9 dC) = false)) → pM G (MWl G ad (xi y 0 0) ++ W0) s H locs → lv_has ls 7 [(0, .ref (ad 0)), (1, .int (nI k0)), (2, .int (nI k1)), (3, .int th), (4, .int (nI k))] → W pp l ee R s m ([.ref (ad 0), .int (nI k0), .int (nI k1)] : List Value).toArray below meth c H locs ((0 + 0) + 0) ((0 + 0) + 0) Q (F0 m 55 ls []) := by
              intro nn
              induction nn with
              | zero => intro k th H locs ls hm; exact absurd hm (Nat.not_lt_zero _)
              | succ nn ih =>
                intro k th H locs ls hm hk hth hW hl
                refine lv_iload hx hb dX4_amend_55 (lv_at hl 4 rfl) ?_
                refine lv_aload_n hx hb dX4_amend_57 rfl (lv_at hl 0 rfl) ?_
                refine gM0_claims hF hW q1102 (v := nI (cC S.1).length) (m8) dX4_amend_58 ?_
                refine lv_icmp_ge (tgt := 91) hx hb dX4_amend_61 (by decide) (fun c_61 => ?_) (fun c_61 => ?_)
                · have hkk : k = (cC S.1).length := by have := le_le c_61; omega
                  rcases hth with ⟨rfl, hx9⟩ | ⟨rfl, hx9⟩
                  · refine lv_iload_n hx hb dX4_amend_91 rfl (lv_at hl 3 rfl) ?_
                    refine lv_if_eq (tgt := 102) hx hb dX4_amend_92 (by decide) (fun c_92 => absurd c_92 (by decide)) (fun c_92 => ?_)
                    refine lv_aload_n hx hb dX4_amend_95 rfl (lv_at hl 0 rfl) ?_
                    refine lv_bipush (v := 8) hx hb dX4_amend_96 (by decide) ?_
                    refine cl_i (ru_V (As := [.int 8]) (rest := []) hF (mX4_denied l G ad (xi y 0 0) W0 8) (cwV 1 hts (lw_V q1382 q1384 qs50 q66 q1385) rfl rfl rfl (by decide +kernel) ⟨lb hR1 rfl, lb hR4 rfl⟩) hW (List.mem_of_getElem? (i := 0) rfl) (ci := 20) rfl rfl rfl hl.1 rfl (lv_room (Nat.le_of_ble_eq_true rfl)) dX4_amend_98 ⟨by omega, by omega⟩) hW (fun r_10 u_11 H locs h_12 hW => ?_)
                    obtain ⟨rfl, rfl⟩ : r_10 = 0 ∧ u_11 = _ := h_12
                    have hW : pM G (MWl G ad (xi (xi (xi y 0 0) 1 8) 2 (-1)) ++ W0) s _ _ := hW
                    exact re_z hF hRt hLk hQ (by omega) (by omega) (by decide) dX4_amend_101 ((xi (xi (xi y 0 0) 1 8) 2 (-1)), []) (by unfold amendS; rw [hi0]; dsimp only; rw [hi1]; dsimp only; rw [if_neg (fun z => z hg), if_pos hx9]; exact ⟨rfl, MR.nil ⟨m0, m1, m2, m3, m4, m5, m6, m7, m8, m9, m10, m11, m12, m13, m14, rfl, m16, rfl, m18, m19, m20, m21, m22⟩⟩) (pM.nil (hW))
                  · refine lv_iload_n hx hb dX4_amend_91 rfl (lv_at hl 3 rfl) ?_
                    refine lv_if_eq (tgt := 102) hx hb dX4_amend_92 (by decide) (fun c_92 => ?_) (fun c_92 => absurd c_92 (by decide))
                    have hst : ¬ stoodB S.1 k0 = true := by rw [show stoodB S.1 k0 = false from any_no (d := dC) (fun k9 h9 => hx9 k9 (by omega))]; decide
                    refine lv_aload_n hx hb dX4_amend_102 rfl (lv_at hl 0 rfl) ?_
                    refine lv_iconst (v := 0) hx hb dX4_amend_103 (by decide) ?_
                    refine pM0_fault hF hW q1098 dX4_amend_104 (fun H locs hW => ?_)
                    have hW : pM G (MWl G ad (xi (xi y 0 0) 3 0) ++ W0) s _ _ := hW
                    refine nw (ci := 22) hF hW rfl in_X6 tyX6 tyX6_ok q1037 q1061 q68 (fs := [.int 0, .int 0, .null, .null, .null, .null, .null]) (fun j hj => by match j, hj with | 0, _ => rfl | 1, _ => rfl | 2, _ => rfl | 3, _ => rfl | 4, _ => rfl | 5, _ => rfl | 6, _ => rfl) (by omega) (by omega) dX4_amend_107 (fun qo_13 H hW => ?_)
                    have hW := hW.asc
                    have hW : pM G (MWl G ad (xi (xi y 0 0) 3 0) ++ (W0 ++ [(qo_13, .inr (22, [.int 0, .int 0, .null, .null, .null, .null, .null]))])) s _ _ := hW
                    refine lv_dup hx hb dX4_amend_110 rfl ?_
                    have hW := pM.csa (A := MWl G ad (xi (xi y 0 0) 3 0)) (B := W0) hW
                    refine cl_v (ru_IN (As := []) (rest := [.ref qo_13]) hF (mX6_init l G (MWl G ad (xi (xi y 0 0) 3 0) ++ W0) qo_13) ⟨va_cnB 0 hts (lw_meth q1064) rfl rfl rfl (hW.2.2.2.2.2.1 _ (List.mem_of_getElem? (i := 26) rfl)) (hts _ q68) (by decide +kernel) ⟨lb hR1 rfl, lb hR4 rfl⟩, rfl, hts _ q1063⟩ hW rfl rfl hl.1 rfl (lv_room (Nat.le_of_ble_eq_true rfl)) dX4_amend_111 ⟨by omega, by omega⟩) hW (fun u_ H locs _ hW => ?_)
                    obtain ⟨an, aw, af, av, at_⟩ := u_
                    have hW := pM.rot (A := MWl G ad (xi (xi y 0 0) 3 0)) (B := W0) hW
                    have hW : pM G (MWl G ad (xi (xi y 0 0) 3 0) ++ ((qo_13, .inr (22, [.int (nI nT.1.length), .int (nI nT.2.2.length), .ref an, .ref aw, .ref af, .ref av, .ref at_])) :: (an, .inl (G.2.2.1 3, 8, .inr (.inl (fun _ => 0)))) :: (aw, .inl (G.2.2.1 0, 8, .inl (fun _ => 0))) :: (af, .inl (G.2.2.1 0, 10, .inl (fun _ => 0))) :: (av, .inl (G.2.2.1 0, 10, .inl (fun _ => 0))) :: (at_, .inl (G.2.2.1 0, 10, .inl (fun _ => 0))) :: W0)) s _ _ := hW
                    refine lv_astore (lv' := [(4, .ref qo_13), (0, .ref (ad 0)), (1, .int (nI k0)), (2, .int (nI k1)), (3, .int 0)]) hx hb dX4_amend_114 hl (by decide) rfl (fun ls hl => ?_)
                    refine lv_aload_n hx hb dX4_amend_116 rfl (lv_at hl 1 rfl) ?_
                    refine gM0_claimOn hF hW q1117 dX4_amend_117 ?_
                    refine lv_iload_n hx hb dX4_amend_120 rfl (lv_at hl 2 rfl) ?_
                    refine lM13 hF hW (j := k0) (rfl) (by omega) (v := enc ((cC S.1).getD k0 dC).2.2.1) ((m9 k0 hk0).2.2.1) dX4_amend_121 ?_
                    refine lv_iconst (v := (-1)) hx hb dX4_amend_122 (by decide) ?_
                    refine lv_icmp_eq (tgt := 142) hx hb dX4_amend_123 (by decide) (fun c_123 => ?_) (fun c_123 => ?_)
                    · have hon : ((cC S.1).getD k0 dC).2.2.1 = none := enc_m1 (on_b hI hk0) c_123
                      refine lv_aload_n hx hb dX4_amend_142 rfl (lv_at hl 1 rfl) ?_
                      refine lv_aload hx hb dX4_amend_143 (lv_at hl 0 rfl) ?_
                      refine lv_iload_n hx hb dX4_amend_145 rfl (lv_at hl 3 rfl) ?_
                      refine lv_bipush (v := 6) hx hb dX4_amend_146 (by decide) ?_
                      refine lv_bipush (v := 8) hx hb dX4_amend_148 (by decide) ?_
                      have hn : k1 ≤ 300 := by omega
                      have hW : pM G (MWl G ad (mdx (xi (xi y 0 0) 3 0) (xi (xi y 0 0) 3 0).1 ((xi (xi y 0 0) 3 0).2.2.2.2.1 0)) ++ ((qo_13, .inr (22, [.int (nI nT.1.length), .int (nI nT.2.2.length), .ref an, .ref aw, .ref af, .ref av, .ref at_])) :: (an, .inl (G.2.2.1 3, 8, .inr (.inl (fun _ => 0)))) :: (aw, .inl (G.2.2.1 0, 8, .inl (fun _ => 0))) :: (af, .inl (G.2.2.1 0, 10, .inl (fun _ => 0))) :: (av, .inl (G.2.2.1 0, 10, .inl (fun _ => 0))) :: (at_, .inl (G.2.2.1 0, 10, .inl (fun _ => 0))) :: W0)) s _ _ := hW
                      refine cx_v (rx_V (As := [.ref qo_13, .int (nI k1), .int 6, .int 8]) (rest := []) hF (mX4_reads l G ad (xi (xi y 0 0) 3 0) W0 (xi (xi y 0 0) 3 0).1 ((xi (xi y 0 0) 3 0).2.2.2.2.1 0) k1 hn (cW S.1) m1.1 b0 m0 hI.1.2.2.1 qo_13 an aw af av at_ (fun _ => 0) (fun _ => 0) (fun _ => 0) (fun _ => 0) (fun _ => 0) nT MHc_n 6 8 (nT_ok) (by omega) (by omega)) (cwV 4 hts (lw_V q1314 q1316 qs39 q66 q1317) rfl rfl rfl (by decide +kernel) ⟨lb hR1 rfl, lb hR4 rfl⟩) hW (List.mem_of_getElem? (i := 0) rfl) (ci := 20) rfl rfl rfl hl.1 rfl (lv_room (Nat.le_of_ble_eq_true rfl)) dX4_amend_150 ⟨by omega, by omega⟩) hW (fun u_15 H locs h_16 hW => ?_) (fun u_15 H locs h_16 hW => ?_)
                      · obtain ⟨e1, e2, v2, lt2⟩ := u_15
                        have hrd : readS S k1 6 8 nT = .inl (e1, e2) := by unfold readS; rw [← m14]; exact h_16
                        have hW : pM G (MWl G ad (mdx (xi (xi (xi (xi (xi y 0 0) 3 0) 11 0) 21 (nI e1)) 22 (nI e2)) v2 lt2) ++ W0) s _ _ := hW
                        refine ca hF htab rfl rfl (by decide) q1039 (List.mem_of_getElem? (i := 39) rfl) hW (List.mem_of_getElem? (i := 20) rfl) (ci := 21) rfl ?_
                        refine lv_astore (lv' := [(5, .ref (ad 20)), (4, .ref qo_13), (0, .ref (ad 0)), (1, .int (nI k0)), (2, .int (nI k1)), (3, .int 0)]) hx hb dX4_amend_156 hl (by decide) rfl (fun ls hl => ?_)
                        refine lv_aload_n hx hb dX4_amend_158 rfl (lv_at hl 2 rfl) ?_
                        refine lv_aload hx hb dX4_amend_159 (lv_at hl 0 rfl) ?_
                        refine cl_i (ru_V (As := [.ref (ad 20)]) (rest := []) hF (mX4_wrong l G ad (mdx (xi (xi (xi (xi (xi y 0 0) 3 0) 11 0) 21 (nI e1)) 22 (nI e2)) v2 lt2) W0) (cwV 1 hts (lw_V q1334 q1336 qs43 q66 q1337) rfl rfl rfl (by decide +kernel) ⟨lb hR1 rfl, lb hR4 rfl⟩) hW (List.mem_of_getElem? (i := 0) rfl) (ci := 20) rfl rfl rfl hl.1 rfl (lv_room (Nat.le_of_ble_eq_true rfl)) dX4_amend_161 ⟨by omega, by omega⟩) hW (fun r_ u_ H locs h_ hW => ?_)
                        obtain ⟨rfl, rfl⟩ : r_ = -1 ∧ u_ = _ := h_
                        have hW : pM G (MWl G ad (xi (xi (xi (mdx (xi (xi (xi (xi (xi y 0 0) 3 0) 11 0) 21 (nI e1)) 22 (nI e2)) v2 lt2) 1 4) 2 (nI e2)) 3 (nI e1)) ++ W0) s _ _ := hW
                        refine lv_istore (lv' := [(6, .int (-1)), (5, .ref (ad 20)), (4, .ref qo_13), (0, .ref (ad 0)), (1, .int (nI k0)), (2, .int (nI k1)), (3, .int 0)]) hx hb dX4_amend_164 hl (by decide) rfl (fun ls hl => ?_)
                        refine lv_iconst (v := 0) hx hb dX4_amend_166 (by decide) ?_
                        exact re_z hF hRt hLk hQ (by omega) (by omega) (by decide) dX4_amend_167 ((xi (xi (xi (mdx (xi (xi (xi (xi (xi y 0 0) 3 0) 11 0) 21 (nI e1)) 22 (nI e2)) v2 lt2) 1 4) 2 (nI e2)) 3 (nI e1)), []) (by unfold amendS; rw [hi0]; dsimp only; rw [hi1]; dsimp only; rw [if_neg (fun z => z hg), if_neg hst, hon]; rw [show readS S k1 6 8 (baseT S.1 none) = _ from hrd]; exact ⟨rfl, MR.nil ⟨m0, m1, m2, m3, m4, m5, m6, m7, m8, m9, m10, m11, m12, rfl, m14, rfl, rfl, rfl, m18, m19, m20, m21, m22⟩⟩) (pM.nil (hW))
                      · obtain ⟨t9, nf9, wf9, ff9, vf9, tf9, v2, lt2⟩ := u_15
                        obtain ⟨hrd, hok9, ht9⟩ := h_16
                        have hrd : readS S k1 6 8 nT = .inr t9 := by unfold readS; rw [← m14]; exact hrd
                        have hok9 : TxOk (cW S.1).length 6 8 t9 := hok9
                        have ht9 : MHc t9 nf9 wf9 ff9 vf9 tf9 := ht9
                        have hW : pM G (MWl G ad (mdx (xi (xi (xi y 0 0) 3 0) 11 0) v2 lt2) ++ ((qo_13, .inr (22, [.int (nI t9.1.length), .int (nI t9.2.2.length), .ref an, .ref aw, .ref af, .ref av, .ref at_])) :: (an, .inl (G.2.2.1 3, 8, .inr (.inl nf9))) :: (aw, .inl (G.2.2.1 0, 8, .inl wf9)) :: (af, .inl (G.2.2.1 0, 10, .inl ff9)) :: (av, .inl (G.2.2.1 0, 10, .inl vf9)) :: (at_, .inl (G.2.2.1 0, 10, .inl tf9)) :: W0)) s _ _ := hW
                        refine lv_goto (tgt := 168) hx hb dX4_amend_153 (by decide) ?_
                        have hfi := (hI.2.2.2.2.1.2 k0 hk0).2.1
                        refine lv_aload_n hx hb dX4_amend_168 rfl (lv_at hl 1 rfl) ?_
                        refine lv_aload_n hx hb dX4_amend_169 rfl (lv_at hl 1 rfl) ?_
                        refine gM0_file hF hW q1108 dX4_amend_170 ?_
                        refine lv_aload_n hx hb dX4_amend_173 rfl (lv_at hl 1 rfl) ?_
                        refine gM0_claimFile hF hW q1116 dX4_amend_174 ?_
                        refine lv_iload_n hx hb dX4_amend_177 rfl (lv_at hl 2 rfl) ?_
                        refine lM12 hF hW (j := k0) (rfl) (by omega) (v := nI ((cC S.1).getD k0 dC).2.1) ((m9 k0 hk0).2.1) dX4_amend_178 ?_
                        obtain ⟨qf, hqf1, hqf2⟩ := (m5 ((cC S.1).getD k0 dC).2.1 hfi).1
                        refine lM4 hF hW (j := ((cC S.1).getD k0 dC).2.1) (rfl) (by omega) (r := qf) (hqf1) dX4_amend_179 ?_
                        refine lv_aload hx hb dX4_amend_180 (lv_at hl 0 rfl) ?_
                        have hokf := (hI.2.2.1.2 ((cC S.1).getD k0 dC).2.1 hfi).1
                        have hW : pM G (MWl G ad (mfx (mdx (xi (xi (xi y 0 0) 3 0) 11 0) v2 lt2) ((mdx (xi (xi (xi y 0 0) 3 0) 11 0) v2 lt2).1 17) ((mdx (xi (xi (xi y 0 0) 3 0) 11 0) v2 lt2).2.1 14) ((mdx (xi (xi (xi y 0 0) 3 0) 11 0) v2 lt2).2.1 15)) ++ ((qo_13, .inr (22, [.int (nI t9.1.length), .int (nI t9.2.2.length), .ref an, .ref aw, .ref af, .ref av, .ref at_])) :: (an, .inl (G.2.2.1 3, 8, .inr (.inl nf9))) :: (aw, .inl (G.2.2.1 0, 8, .inl wf9)) :: (af, .inl (G.2.2.1 0, 10, .inl ff9)) :: (av, .inl (G.2.2.1 0, 10, .inl vf9)) :: (at_, .inl (G.2.2.1 0, 10, .inl tf9)) :: W0)) s _ _ := hW
                        refine cl_i (ru_V (As := [.ref qf, .ref qo_13]) (rest := []) hF (mX4_discloses l G ad (mdx (xi (xi (xi y 0 0) 3 0) 11 0) v2 lt2) ((qo_13, .inr (22, [.int (nI t9.1.length), .int (nI t9.2.2.length), .ref an, .ref aw, .ref af, .ref av, .ref at_])) :: (an, .inl (G.2.2.1 3, 8, .inr (.inl nf9))) :: (aw, .inl (G.2.2.1 0, 8, .inl wf9)) :: (af, .inl (G.2.2.1 0, 10, .inl ff9)) :: (av, .inl (G.2.2.1 0, 10, .inl vf9)) :: (at_, .inl (G.2.2.1 0, 10, .inl tf9)) :: W0) ((mdx (xi (xi (xi y 0 0) 3 0) 11 0) v2 lt2).1 17) ((mdx (xi (xi (xi y 0 0) 3 0) 11 0) v2 lt2).2.1 14) ((mdx (xi (xi (xi y 0 0) 3 0) 11 0) v2 lt2).2.1 15) qo_13 qf t9 (((cF S.1).getD ((cC S.1).getD k0 dC).2.1 dF).1) (⟨an, aw, af, av, at_, nf9, wf9, ff9, vf9, tf9, List.mem_of_getElem? (i := 0) rfl, List.mem_of_getElem? (i := 1) rfl, List.mem_of_getElem? (i := 2) rfl, List.mem_of_getElem? (i := 3) rfl, List.mem_of_getElem? (i := 4) rfl, List.mem_of_getElem? (i := 5) rfl, ht9.2⟩) (hqf2.u.mono (fun z h => List.mem_cons_of_mem _ (List.mem_cons_of_mem _ (List.mem_cons_of_mem _ (List.mem_cons_of_mem _ (List.mem_cons_of_mem _ (List.mem_cons_of_mem _ (hT z h)))))))) (cW S.1).length (WdOk.cg m1.2 (wdF_ok hI)) b0 hok9.wide hokf) (cwV 2 hts (lw_V q1362 q1364 qs46 q66 q1365) rfl rfl rfl (by decide +kernel) ⟨lb hR1 rfl, lb hR4 rfl⟩) hW (List.mem_of_getElem? (i := 0) rfl) (ci := 20) rfl rfl rfl hl.1 rfl (lv_room (Nat.le_of_ble_eq_true rfl)) dX4_amend_182 ⟨by omega, by omega⟩) hW (fun r_ u_ H locs h_ hW => ?_)
                        obtain ⟨w2, go2, fi2⟩ := u_
                        have hW : pM G (MWl G ad (mfx (mdx (xi (xi (xi y 0 0) 3 0) 11 0) v2 lt2) w2 go2 fi2) ++ ((qo_13, .inr (22, [.int (nI t9.1.length), .int (nI t9.2.2.length), .ref an, .ref aw, .ref af, .ref av, .ref at_])) :: (an, .inl (G.2.2.1 3, 8, .inr (.inl nf9))) :: (aw, .inl (G.2.2.1 0, 8, .inl wf9)) :: (af, .inl (G.2.2.1 0, 10, .inl ff9)) :: (av, .inl (G.2.2.1 0, 10, .inl vf9)) :: (at_, .inl (G.2.2.1 0, 10, .inl tf9)) :: W0)) s _ _ := hW
                        rcases h_ with ⟨rfl, hd⟩ | ⟨rfl, hd⟩
                        · have hd : disA S.1 (((cF S.1).getD ((cC S.1).getD k0 dC).2.1 dF).1) t9 = true := by unfold disA; rw [← disB_cg (wd := wdF S.1) m1.2 (wdF_ok hI) b0 hokf]; exact hd
                          refine lv_if_ne (tgt := 194) hx hb dX4_amend_185 (by decide) (fun c_185 => ?_) (fun c_185 => absurd c_185 (by decide))
                          refine lv_aload_n hx hb dX4_amend_194 rfl (lv_at hl 1 rfl) ?_
                          refine lv_aload hx hb dX4_amend_195 (lv_at hl 0 rfl) ?_
                          refine lv_aload_n hx hb dX4_amend_197 rfl (lv_at hl 1 rfl) ?_
                          refine gM0_claim hF hW q1110 dX4_amend_198 ?_
                          refine lv_iload_n hx hb dX4_amend_201 rfl (lv_at hl 2 rfl) ?_
                          obtain ⟨qc, hqc1, hqc2⟩ := (m9 k0 hk0).1
                          refine lM6 hF hW (j := k0) (rfl) (by omega) (r := qc) (hqc1) dX4_amend_202 ?_
                          have hokc := (hI.2.2.2.2.1.2 k0 hk0).1
                          have hW : pM G (MWl G ad (mfx (mfx (mdx (xi (xi (xi y 0 0) 3 0) 11 0) v2 lt2) w2 go2 fi2) ((mfx (mdx (xi (xi (xi y 0 0) 3 0) 11 0) v2 lt2) w2 go2 fi2).1 17) ((mfx (mdx (xi (xi (xi y 0 0) 3 0) 11 0) v2 lt2) w2 go2 fi2).2.1 14) ((mfx (mdx (xi (xi (xi y 0 0) 3 0) 11 0) v2 lt2) w2 go2 fi2).2.1 15)) ++ ((qo_13, .inr (22, [.int (nI t9.1.length), .int (nI t9.2.2.length), .ref an, .ref aw, .ref af, .ref av, .ref at_])) :: (an, .inl (G.2.2.1 3, 8, .inr (.inl nf9))) :: (aw, .inl (G.2.2.1 0, 8, .inl wf9)) :: (af, .inl (G.2.2.1 0, 10, .inl ff9)) :: (av, .inl (G.2.2.1 0, 10, .inl vf9)) :: (at_, .inl (G.2.2.1 0, 10, .inl tf9)) :: W0)) s _ _ := hW
                          refine cl_i (ru_V (As := [.ref qo_13, .ref qc]) (rest := []) hF (mX4_discloses l G ad (mfx (mdx (xi (xi (xi y 0 0) 3 0) 11 0) v2 lt2) w2 go2 fi2) ((qo_13, .inr (22, [.int (nI t9.1.length), .int (nI t9.2.2.length), .ref an, .ref aw, .ref af, .ref av, .ref at_])) :: (an, .inl (G.2.2.1 3, 8, .inr (.inl nf9))) :: (aw, .inl (G.2.2.1 0, 8, .inl wf9)) :: (af, .inl (G.2.2.1 0, 10, .inl ff9)) :: (av, .inl (G.2.2.1 0, 10, .inl vf9)) :: (at_, .inl (G.2.2.1 0, 10, .inl tf9)) :: W0) ((mfx (mdx (xi (xi (xi y 0 0) 3 0) 11 0) v2 lt2) w2 go2 fi2).1 17) ((mfx (mdx (xi (xi (xi y 0 0) 3 0) 11 0) v2 lt2) w2 go2 fi2).2.1 14) ((mfx (mdx (xi (xi (xi y 0 0) 3 0) 11 0) v2 lt2) w2 go2 fi2).2.1 15) qc qo_13 (((cC S.1).getD k0 dC).1) t9 (hqc2.u.mono (fun z h => List.mem_cons_of_mem _ (List.mem_cons_of_mem _ (List.mem_cons_of_mem _ (List.mem_cons_of_mem _ (List.mem_cons_of_mem _ (List.mem_cons_of_mem _ (hT z h)))))))) (⟨an, aw, af, av, at_, nf9, wf9, ff9, vf9, tf9, List.mem_of_getElem? (i := 0) rfl, List.mem_of_getElem? (i := 1) rfl, List.mem_of_getElem? (i := 2) rfl, List.mem_of_getElem? (i := 3) rfl, List.mem_of_getElem? (i := 4) rfl, List.mem_of_getElem? (i := 5) rfl, ht9.2⟩) (cW S.1).length (WdOk.cg m1.2 (wdF_ok hI)) b0 hokc.wide hok9.wide) (cwV 2 hts (lw_V q1362 q1364 qs46 q66 q1365) rfl rfl rfl (by decide +kernel) ⟨lb hR1 rfl, lb hR4 rfl⟩) hW (List.mem_of_getElem? (i := 0) rfl) (ci := 20) rfl rfl rfl hl.1 rfl (lv_room (Nat.le_of_ble_eq_true rfl)) dX4_amend_203 ⟨by omega, by omega⟩) hW (fun r_ u_ H locs h_ hW => ?_)
                          obtain ⟨w2, go2, fi2⟩ := u_
                          have hW : pM G (MWl G ad (mfx (mfx (mdx (xi (xi (xi y 0 0) 3 0) 11 0) v2 lt2) w2 go2 fi2) w2 go2 fi2) ++ ((qo_13, .inr (22, [.int (nI t9.1.length), .int (nI t9.2.2.length), .ref an, .ref aw, .ref af, .ref av, .ref at_])) :: (an, .inl (G.2.2.1 3, 8, .inr (.inl nf9))) :: (aw, .inl (G.2.2.1 0, 8, .inl wf9)) :: (af, .inl (G.2.2.1 0, 10, .inl ff9)) :: (av, .inl (G.2.2.1 0, 10, .inl vf9)) :: (at_, .inl (G.2.2.1 0, 10, .inl tf9)) :: W0)) s _ _ := hW
                          rcases h_ with ⟨rfl, hd2⟩ | ⟨rfl, hd2⟩
                          · have hd2 : disA S.1 t9 (((cC S.1).getD k0 dC).1) = true := by unfold disA; rw [← disB_cg (wd := wdF S.1) m1.2 (wdF_ok hI) b0 hok9.wide]; exact hd2
                            refine lv_if_ne (tgt := 216) hx hb dX4_amend_206 (by decide) (fun c_206 => ?_) (fun c_206 => absurd c_206 (by decide))
                            have hml : ∀ z ∈ T, z ∈ T ++ [(qo_13, .inr (22, [.int (nI t9.1.length), .int (nI t9.2.2.length), .ref an, .ref aw, .ref af, .ref av, .ref at_])), (an, .inl (G.2.2.1 3, 8, .inr (.inl nf9))), (aw, .inl (G.2.2.1 0, 8, .inl wf9)), (af, .inl (G.2.2.1 0, 10, .inl ff9)), (av, .inl (G.2.2.1 0, 10, .inl vf9)), (at_, .inl (G.2.2.1 0, 10, .inl tf9))] := fun z h => List.mem_append_left _ h
                            have hmt : MT G (T ++ [(qo_13, .inr (22, [.int (nI t9.1.length), .int (nI t9.2.2.length), .ref an, .ref aw, .ref af, .ref av, .ref at_])), (an, .inl (G.2.2.1 3, 8, .inr (.inl nf9))), (aw, .inl (G.2.2.1 0, 8, .inl wf9)), (af, .inl (G.2.2.1 0, 10, .inl ff9)), (av, .inl (G.2.2.1 0, 10, .inl vf9)), (at_, .inl (G.2.2.1 0, 10, .inl tf9))]) qo_13 t9 := ⟨an, aw, af, av, at_, nf9, wf9, ff9, vf9, tf9, List.mem_append_right _ (List.mem_of_getElem? (i := 0) rfl), List.mem_append_right _ (List.mem_of_getElem? (i := 1) rfl), List.mem_append_right _ (List.mem_of_getElem? (i := 2) rfl), List.mem_append_right _ (List.mem_of_getElem? (i := 3) rfl), List.mem_append_right _ (List.mem_of_getElem? (i := 4) rfl), List.mem_append_right _ (List.mem_of_getElem? (i := 5) rfl), ht9⟩
                            refine lv_aload_n hx hb dX4_amend_216 rfl (lv_at hl 1 rfl) ?_
                            refine lv_bipush (v := 6) hx hb dX4_amend_217 (by decide) ?_
                            refine lv_iload_n hx hb dX4_amend_219 rfl (lv_at hl 2 rfl) ?_
                            refine lv_aload_n hx hb dX4_amend_220 rfl (lv_at hl 1 rfl) ?_
                            refine gM0_claim hF hW q1110 dX4_amend_221 ?_
                            refine lv_iload_n hx hb dX4_amend_224 rfl (lv_at hl 2 rfl) ?_
                            refine lM6 hF hW (j := k0) (rfl) (by omega) (r := qc) (hqc1) dX4_amend_225 ?_
                            obtain ⟨an7, aw7, af7, av7, at7, nf7, wf7, ff7, vf7, tf7, hq7, -⟩ := id hqc2
                            refine cl_v (ru_V (As := [.int 6, .int (nI k0), .ref qc]) (rest := []) hF (mX4_act_t l G ad (mfx (mfx (mdx (xi (xi (xi y 0 0) 3 0) 11 0) v2 lt2) w2 go2 fi2) w2 go2 fi2) ((qo_13, .inr (22, [.int (nI t9.1.length), .int (nI t9.2.2.length), .ref an, .ref aw, .ref af, .ref av, .ref at_])) :: (an, .inl (G.2.2.1 3, 8, .inr (.inl nf9))) :: (aw, .inl (G.2.2.1 0, 8, .inl wf9)) :: (af, .inl (G.2.2.1 0, 10, .inl ff9)) :: (av, .inl (G.2.2.1 0, 10, .inl vf9)) :: (at_, .inl (G.2.2.1 0, 10, .inl tf9)) :: W0) S.2.1.length (by omega) m11 6 (nI k0) qc an7 aw7 af7 av7 at7 (nI ((cC S.1).getD k0 dC).1.1.length) (nI ((cC S.1).getD k0 dC).1.2.2.length) ((fun z h => List.mem_cons_of_mem _ (List.mem_cons_of_mem _ (List.mem_cons_of_mem _ (List.mem_cons_of_mem _ (List.mem_cons_of_mem _ (List.mem_cons_of_mem _ (hT z h))))))) _ hq7)) (cwV 3 hts (lw_V q1283 q1285 qs35 q66 q1286) rfl rfl rfl (by decide +kernel) ⟨lb hR1 rfl, lb hR4 rfl⟩) hW (List.mem_of_getElem? (i := 0) rfl) (ci := 20) rfl rfl rfl hl.1 rfl (lv_room (Nat.le_of_ble_eq_true rfl)) dX4_amend_226 ⟨by omega, by omega⟩) hW (fun u_ H locs h_ hW => ?_)
                            obtain rfl : u_ = _ := h_
                            have hW : pM G (MWl G ad (xr (xa (xa (xi (mfx (mfx (mdx (xi (xi (xi y 0 0) 3 0) 11 0) v2 lt2) w2 go2 fi2) w2 go2 fi2) 10 (nI (S.2.1.length + 1))) 11 (va_up ((mfx (mfx (mdx (xi (xi (xi y 0 0) 3 0) 11 0) v2 lt2) w2 go2 fi2) w2 go2 fi2).2.1 11) S.2.1.length 6)) 12 (va_up ((mfx (mfx (mdx (xi (xi (xi y 0 0) 3 0) 11 0) v2 lt2) w2 go2 fi2) w2 go2 fi2).2.1 12) S.2.1.length (nI k0))) 4 (va_up ((mfx (mfx (mdx (xi (xi (xi y 0 0) 3 0) 11 0) v2 lt2) w2 go2 fi2) w2 go2 fi2).2.2.1 4) S.2.1.length (some qc))) ++ ((qo_13, .inr (22, [.int (nI t9.1.length), .int (nI t9.2.2.length), .ref an, .ref aw, .ref af, .ref av, .ref at_])) :: (an, .inl (G.2.2.1 3, 8, .inr (.inl nf9))) :: (aw, .inl (G.2.2.1 0, 8, .inl wf9)) :: (af, .inl (G.2.2.1 0, 10, .inl ff9)) :: (av, .inl (G.2.2.1 0, 10, .inl vf9)) :: (at_, .inl (G.2.2.1 0, 10, .inl tf9)) :: W0)) s _ _ := hW
                            refine lv_aload_n hx hb dX4_amend_229 rfl (lv_at hl 1 rfl) ?_
                            refine gM0_claim hF hW q1110 dX4_amend_230 ?_
                            refine lv_iload_n hx hb dX4_amend_233 rfl (lv_at hl 2 rfl) ?_
                            refine lv_aload hx hb dX4_amend_234 (lv_at hl 0 rfl) ?_
                            refine sM6 hF hW (ms_r (List.mem_of_getElem? (i := 0) rfl)) (ci := 22) rfl rfl (j := k0) (rfl) (by omega) dX4_amend_236 (fun H locs hW => ?_)
                            have hW : pM G (MWl G ad (xr (xr (xa (xa (xi (mfx (mfx (mdx (xi (xi (xi y 0 0) 3 0) 11 0) v2 lt2) w2 go2 fi2) w2 go2 fi2) 10 (nI (S.2.1.length + 1))) 11 (va_up ((mfx (mfx (mdx (xi (xi (xi y 0 0) 3 0) 11 0) v2 lt2) w2 go2 fi2) w2 go2 fi2).2.1 11) S.2.1.length 6)) 12 (va_up ((mfx (mfx (mdx (xi (xi (xi y 0 0) 3 0) 11 0) v2 lt2) w2 go2 fi2) w2 go2 fi2).2.1 12) S.2.1.length (nI k0))) 3 (va_up ((mfx (mfx (mdx (xi (xi (xi y 0 0) 3 0) 11 0) v2 lt2) w2 go2 fi2) w2 go2 fi2).2.2.1 3) k0 (some qo_13))) 4 (va_up ((mfx (mfx (mdx (xi (xi (xi y 0 0) 3 0) 11 0) v2 lt2) w2 go2 fi2) w2 go2 fi2).2.2.1 4) S.2.1.length (some qc))) ++ ((qo_13, .inr (22, [.int (nI t9.1.length), .int (nI t9.2.2.length), .ref an, .ref aw, .ref af, .ref av, .ref at_])) :: (an, .inl (G.2.2.1 3, 8, .inr (.inl nf9))) :: (aw, .inl (G.2.2.1 0, 8, .inl wf9)) :: (af, .inl (G.2.2.1 0, 10, .inl ff9)) :: (av, .inl (G.2.2.1 0, 10, .inl vf9)) :: (at_, .inl (G.2.2.1 0, 10, .inl tf9)) :: W0)) s _ _ := hW
                            refine lv_aload_n hx hb dX4_amend_237 rfl (lv_at hl 1 rfl) ?_
                            refine cl_i (ru_V (As := []) (rest := []) hF (mX4_granted l G ad (xr (xr (xa (xa (xi (mfx (mfx (mdx (xi (xi (xi y 0 0) 3 0) 11 0) v2 lt2) w2 go2 fi2) w2 go2 fi2) 10 (nI (S.2.1.length + 1))) 11 (va_up ((mfx (mfx (mdx (xi (xi (xi y 0 0) 3 0) 11 0) v2 lt2) w2 go2 fi2) w2 go2 fi2).2.1 11) S.2.1.length 6)) 12 (va_up ((mfx (mfx (mdx (xi (xi (xi y 0 0) 3 0) 11 0) v2 lt2) w2 go2 fi2) w2 go2 fi2).2.1 12) S.2.1.length (nI k0))) 3 (va_up ((mfx (mfx (mdx (xi (xi (xi y 0 0) 3 0) 11 0) v2 lt2) w2 go2 fi2) w2 go2 fi2).2.2.1 3) k0 (some qo_13))) 4 (va_up ((mfx (mfx (mdx (xi (xi (xi y 0 0) 3 0) 11 0) v2 lt2) w2 go2 fi2) w2 go2 fi2).2.2.1 4) S.2.1.length (some qc))) ((qo_13, .inr (22, [.int (nI t9.1.length), .int (nI t9.2.2.length), .ref an, .ref aw, .ref af, .ref av, .ref at_])) :: (an, .inl (G.2.2.1 3, 8, .inr (.inl nf9))) :: (aw, .inl (G.2.2.1 0, 8, .inl wf9)) :: (af, .inl (G.2.2.1 0, 10, .inl ff9)) :: (av, .inl (G.2.2.1 0, 10, .inl vf9)) :: (at_, .inl (G.2.2.1 0, 10, .inl tf9)) :: W0) ) (cwV 0 hts (lw_V q1386 q1388 qs51 q66 q1389) rfl rfl rfl (by decide +kernel) ⟨lb hR1 rfl, lb hR4 rfl⟩) hW (List.mem_of_getElem? (i := 0) rfl) (ci := 20) rfl rfl rfl hl.1 rfl (lv_room (Nat.le_of_ble_eq_true rfl)) dX4_amend_238 ⟨by omega, by omega⟩) hW (fun r_17 u_18 H locs h_19 hW => ?_)
                            obtain ⟨rfl, rfl⟩ : r_17 = 1 ∧ u_18 = _ := h_19
                            have hW : pM G (MWl G ad (xr (xr (xa (xa (xi (xi (xi (mfx (mfx (mdx (xi (xi (xi y 0 0) 3 0) 11 0) v2 lt2) w2 go2 fi2) w2 go2 fi2) 1 0) 2 (-1)) 10 (nI (S.2.1.length + 1))) 11 (va_up ((mfx (mfx (mdx (xi (xi (xi y 0 0) 3 0) 11 0) v2 lt2) w2 go2 fi2) w2 go2 fi2).2.1 11) S.2.1.length 6)) 12 (va_up ((mfx (mfx (mdx (xi (xi (xi y 0 0) 3 0) 11 0) v2 lt2) w2 go2 fi2) w2 go2 fi2).2.1 12) S.2.1.length (nI k0))) 3 (va_up ((mfx (mfx (mdx (xi (xi (xi y 0 0) 3 0) 11 0) v2 lt2) w2 go2 fi2) w2 go2 fi2).2.2.1 3) k0 (some qo_13))) 4 (va_up ((mfx (mfx (mdx (xi (xi (xi y 0 0) 3 0) 11 0) v2 lt2) w2 go2 fi2) w2 go2 fi2).2.2.1 4) S.2.1.length (some qc))) ++ ((qo_13, .inr (22, [.int (nI t9.1.length), .int (nI t9.2.2.length), .ref an, .ref aw, .ref af, .ref av, .ref at_])) :: (an, .inl (G.2.2.1 3, 8, .inr (.inl nf9))) :: (aw, .inl (G.2.2.1 0, 8, .inl wf9)) :: (af, .inl (G.2.2.1 0, 10, .inl ff9)) :: (av, .inl (G.2.2.1 0, 10, .inl vf9)) :: (at_, .inl (G.2.2.1 0, 10, .inl tf9)) :: W0)) s _ _ := hW
                            exact re_z hF hRt hLk hQ (by omega) (by omega) (by decide) dX4_amend_241 ((xr (xr (xa (xa (xi (xi (xi (mfx (mfx (mdx (xi (xi (xi y 0 0) 3 0) 11 0) v2 lt2) w2 go2 fi2) w2 go2 fi2) 1 0) 2 (-1)) 10 (nI (S.2.1.length + 1))) 11 (va_up ((mfx (mfx (mdx (xi (xi (xi y 0 0) 3 0) 11 0) v2 lt2) w2 go2 fi2) w2 go2 fi2).2.1 11) S.2.1.length 6)) 12 (va_up ((mfx (mfx (mdx (xi (xi (xi y 0 0) 3 0) 11 0) v2 lt2) w2 go2 fi2) w2 go2 fi2).2.1 12) S.2.1.length (nI k0))) 3 (va_up ((mfx (mfx (mdx (xi (xi (xi y 0 0) 3 0) 11 0) v2 lt2) w2 go2 fi2) w2 go2 fi2).2.2.1 3) k0 (some qo_13))) 4 (va_up ((mfx (mfx (mdx (xi (xi (xi y 0 0) 3 0) 11 0) v2 lt2) w2 go2 fi2) w2 go2 fi2).2.2.1 4) S.2.1.length (some qc))), [(qo_13, .inr (22, [.int (nI t9.1.length), .int (nI t9.2.2.length), .ref an, .ref aw, .ref af, .ref av, .ref at_])), (an, .inl (G.2.2.1 3, 8, .inr (.inl nf9))), (aw, .inl (G.2.2.1 0, 8, .inl wf9)), (af, .inl (G.2.2.1 0, 10, .inl ff9)), (av, .inl (G.2.2.1 0, 10, .inl vf9)), (at_, .inl (G.2.2.1 0, 10, .inl tf9))]) (by unfold amendS; rw [hi0]; dsimp only; rw [hi1]; dsimp only; rw [if_neg (fun z => z hg), if_neg hst, hon]; rw [show readS S k1 6 8 (baseT S.1 none) = _ from hrd]; dsimp only; rw [if_neg (by rw [hd]; decide), if_neg (by rw [hd2]; decide)]; exact ⟨rfl, ⟨m0, m1, m2, m3.mono hml, m4, m5.mono hml, m6, m7.mono hml, m8.trans (congrArg nI modC_len.symm), ClaR.tx (m9.mono hml) hk0 hmt, m10, rfl, ActM.add (a := (6, k0, 0, ((cC S.1).getD k0 dC).1)) (m12.mono hml) (fun _ => ⟨qc, rfl, hqc2.mono hml⟩), rfl, m14, rfl, rfl, rfl, m18, m19, m20, m21, m22⟩⟩) (pM.swp [(qo_13, .inr (22, [.int (nI t9.1.length), .int (nI t9.2.2.length), .ref an, .ref aw, .ref af, .ref av, .ref at_])), (an, .inl (G.2.2.1 3, 8, .inr (.inl nf9))), (aw, .inl (G.2.2.1 0, 8, .inl wf9)), (af, .inl (G.2.2.1 0, 10, .inl ff9)), (av, .inl (G.2.2.1 0, 10, .inl vf9)), (at_, .inl (G.2.2.1 0, 10, .inl tf9))] hW)
                          · have hd2 : disA S.1 t9 (((cC S.1).getD k0 dC).1) = false := by unfold disA; rw [← disB_cg (wd := wdF S.1) m1.2 (wdF_ok hI) b0 hok9.wide]; exact hd2
                            refine lv_if_ne (tgt := 216) hx hb dX4_amend_206 (by decide) (fun c_206 => absurd c_206 (by decide)) (fun c_206 => ?_)
                            refine lv_aload_n hx hb dX4_amend_209 rfl (lv_at hl 1 rfl) ?_
                            refine lv_bipush (v := 6) hx hb dX4_amend_210 (by decide) ?_
                            refine cl_i (ru_V (As := [.int 6]) (rest := []) hF (mX4_denied l G ad (mfx (mfx (mdx (xi (xi (xi y 0 0) 3 0) 11 0) v2 lt2) w2 go2 fi2) w2 go2 fi2) ((qo_13, .inr (22, [.int (nI t9.1.length), .int (nI t9.2.2.length), .ref an, .ref aw, .ref af, .ref av, .ref at_])) :: (an, .inl (G.2.2.1 3, 8, .inr (.inl nf9))) :: (aw, .inl (G.2.2.1 0, 8, .inl wf9)) :: (af, .inl (G.2.2.1 0, 10, .inl ff9)) :: (av, .inl (G.2.2.1 0, 10, .inl vf9)) :: (at_, .inl (G.2.2.1 0, 10, .inl tf9)) :: W0) 6) (cwV 1 hts (lw_V q1382 q1384 qs50 q66 q1385) rfl rfl rfl (by decide +kernel) ⟨lb hR1 rfl, lb hR4 rfl⟩) hW (List.mem_of_getElem? (i := 0) rfl) (ci := 20) rfl rfl rfl hl.1 rfl (lv_room (Nat.le_of_ble_eq_true rfl)) dX4_amend_212 ⟨by omega, by omega⟩) hW (fun r_20 u_21 H locs h_22 hW => ?_)
                            obtain ⟨rfl, rfl⟩ : r_20 = 0 ∧ u_21 = _ := h_22
                            have hW : pM G (MWl G ad (xi (xi (mfx (mfx (mdx (xi (xi (xi y 0 0) 3 0) 11 0) v2 lt2) w2 go2 fi2) w2 go2 fi2) 1 6) 2 (-1)) ++ ((qo_13, .inr (22, [.int (nI t9.1.length), .int (nI t9.2.2.length), .ref an, .ref aw, .ref af, .ref av, .ref at_])) :: (an, .inl (G.2.2.1 3, 8, .inr (.inl nf9))) :: (aw, .inl (G.2.2.1 0, 8, .inl wf9)) :: (af, .inl (G.2.2.1 0, 10, .inl ff9)) :: (av, .inl (G.2.2.1 0, 10, .inl vf9)) :: (at_, .inl (G.2.2.1 0, 10, .inl tf9)) :: W0)) s _ _ := hW
                            exact re_z hF hRt hLk hQ (by omega) (by omega) (by decide) dX4_amend_215 ((xi (xi (mfx (mfx (mdx (xi (xi (xi y 0 0) 3 0) 11 0) v2 lt2) w2 go2 fi2) w2 go2 fi2) 1 6) 2 (-1)), []) (by unfold amendS; rw [hi0]; dsimp only; rw [hi1]; dsimp only; rw [if_neg (fun z => z hg), if_neg hst, hon]; rw [show readS S k1 6 8 (baseT S.1 none) = _ from hrd]; dsimp only; rw [if_neg (by rw [hd]; decide), if_pos hd2]; exact ⟨rfl, MR.nil ⟨m0, m1, m2, m3, m4, m5, m6, m7, m8, m9, m10, m11, m12, rfl, m14, rfl, rfl, rfl, m18, m19, m20, m21, m22⟩⟩) (pM.nil (pM.drop6 hW))
                        · have hd : disA S.1 (((cF S.1).getD ((cC S.1).getD k0 dC).2.1 dF).1) t9 = false := by unfold disA; rw [← disB_cg (wd := wdF S.1) m1.2 (wdF_ok hI) b0 hokf]; exact hd
                          refine lv_if_ne (tgt := 194) hx hb dX4_amend_185 (by decide) (fun c_185 => absurd c_185 (by decide)) (fun c_185 => ?_)
                          refine lv_aload_n hx hb dX4_amend_188 rfl (lv_at hl 1 rfl) ?_
                          refine lv_iconst (v := 5) hx hb dX4_amend_189 (by decide) ?_
                          refine cl_i (ru_V (As := [.int 5]) (rest := []) hF (mX4_denied l G ad (mfx (mdx (xi (xi (xi y 0 0) 3 0) 11 0) v2 lt2) w2 go2 fi2) ((qo_13, .inr (22, [.int (nI t9.1.length), .int (nI t9.2.2.length), .ref an, .ref aw, .ref af, .ref av, .ref at_])) :: (an, .inl (G.2.2.1 3, 8, .inr (.inl nf9))) :: (aw, .inl (G.2.2.1 0, 8, .inl wf9)) :: (af, .inl (G.2.2.1 0, 10, .inl ff9)) :: (av, .inl (G.2.2.1 0, 10, .inl vf9)) :: (at_, .inl (G.2.2.1 0, 10, .inl tf9)) :: W0) 5) (cwV 1 hts (lw_V q1382 q1384 qs50 q66 q1385) rfl rfl rfl (by decide +kernel) ⟨lb hR1 rfl, lb hR4 rfl⟩) hW (List.mem_of_getElem? (i := 0) rfl) (ci := 20) rfl rfl rfl hl.1 rfl (lv_room (Nat.le_of_ble_eq_true rfl)) dX4_amend_190 ⟨by omega, by omega⟩) hW (fun r_23 u_24 H locs h_25 hW => ?_)
                          obtain ⟨rfl, rfl⟩ : r_23 = 0 ∧ u_24 = _ := h_25
                          have hW : pM G (MWl G ad (xi (xi (mfx (mdx (xi (xi (xi y 0 0) 3 0) 11 0) v2 lt2) w2 go2 fi2) 1 5) 2 (-1)) ++ ((qo_13, .inr (22, [.int (nI t9.1.length), .int (nI t9.2.2.length), .ref an, .ref aw, .ref af, .ref av, .ref at_])) :: (an, .inl (G.2.2.1 3, 8, .inr (.inl nf9))) :: (aw, .inl (G.2.2.1 0, 8, .inl wf9)) :: (af, .inl (G.2.2.1 0, 10, .inl ff9)) :: (av, .inl (G.2.2.1 0, 10, .inl vf9)) :: (at_, .inl (G.2.2.1 0, 10, .inl tf9)) :: W0)) s _ _ := hW
                          exact re_z hF hRt hLk hQ (by omega) (by omega) (by decide) dX4_amend_193 ((xi (xi (mfx (mdx (xi (xi (xi y 0 0) 3 0) 11 0) v2 lt2) w2 go2 fi2) 1 5) 2 (-1)), []) (by unfold amendS; rw [hi0]; dsimp only; rw [hi1]; dsimp only; rw [if_neg (fun z => z hg), if_neg hst, hon]; rw [show readS S k1 6 8 (baseT S.1 none) = _ from hrd]; dsimp only; rw [if_pos hd]; exact ⟨rfl, MR.nil ⟨m0, m1, m2, m3, m4, m5, m6, m7, m8, m9, m10, m11, m12, rfl, m14, rfl, rfl, rfl, m18, m19, m20, m21, m22⟩⟩) (pM.nil (pM.drop6 hW))
                    · obtain ⟨ko, hon⟩ : ∃ ko, ((cC S.1).getD k0 dC).2.2.1 = some ko := by cases h : ((cC S.1).getD k0 dC).2.2.1 with | none => exact absurd (by rw [h]; rfl) c_123 | some ko => exact ⟨ko, rfl⟩
                      have hko0 := (hI.2.2.2.2.1.2 k0 hk0).2.2.1 ko hon
                      have hko : ko < (cC S.1).length := by omega
                      refine lv_aload hx hb dX4_amend_126 (lv_at hl 0 rfl) ?_
                      refine lv_aload_n hx hb dX4_amend_128 rfl (lv_at hl 1 rfl) ?_
                      refine gM0_claim hF hW q1110 dX4_amend_129 ?_
                      refine lv_aload_n hx hb dX4_amend_132 rfl (lv_at hl 1 rfl) ?_
                      refine gM0_claimOn hF hW q1117 dX4_amend_133 ?_
                      refine lv_iload_n hx hb dX4_amend_136 rfl (lv_at hl 2 rfl) ?_
                      refine lM13 hF hW (j := k0) (rfl) (by omega) (v := nI ko) ((m9 k0 hk0).2.2.1.trans (by rw [hon]; rfl)) dX4_amend_137 ?_
                      obtain ⟨qo, hqo1, hqo2⟩ := (m9 ko hko).1
                      refine lM6 hF hW (j := ko) (rfl) (by omega) (r := qo) (hqo1) dX4_amend_138 ?_
                      have hokb := (hI.2.2.2.2.1.2 ko hko).1
                      refine cl_v (ru_V (As := [.ref qo]) (rest := []) hF (mX6_become l G (MWl G ad (xi (xi y 0 0) 3 0)) W0 qo_13 an aw af av at_ nT.1.length nT.2.2.length (fun _ => 0) (fun _ => 0) (fun _ => 0) (fun _ => 0) (fun _ => 0) qo ((cC S.1).getD ko dC).1 (hqo2.mono hT) hokb.wide.2.2.1 hokb.wide.2.2.2.1) (cwV 1 hts (lw_V q1358 q1359 q1360 q68 q1361) rfl rfl rfl (by decide +kernel) ⟨lb hR1 rfl, lb hR4 rfl⟩) hW (ms_r (List.mem_of_getElem? (i := 0) rfl)) (ci := 22) rfl rfl rfl hl.1 rfl (lv_room (Nat.le_of_ble_eq_true rfl)) dX4_amend_139 ⟨by omega, by omega⟩) hW (fun u_ H locs h_ hW => ?_)
                      obtain ⟨nf8, wf8, ff8, vf8, tf8⟩ := u_
                      have ht8 : MHc ((cC S.1).getD ko dC).1 nf8 wf8 ff8 vf8 tf8 := h_
                      have hW : pM G (MWl G ad (xi (xi y 0 0) 3 0) ++ ((qo_13, .inr (22, [.int (nI ((((cC S.1).getD ko dC).1).1.length)), .int (nI ((((cC S.1).getD ko dC).1).2.2.length)), .ref an, .ref aw, .ref af, .ref av, .ref at_])) :: (an, .inl (G.2.2.1 3, 8, .inr (.inl nf8))) :: (aw, .inl (G.2.2.1 0, 8, .inl wf8)) :: (af, .inl (G.2.2.1 0, 10, .inl ff8)) :: (av, .inl (G.2.2.1 0, 10, .inl vf8)) :: (at_, .inl (G.2.2.1 0, 10, .inl tf8)) :: W0)) s _ _ := hW
                      refine lv_aload_n hx hb dX4_amend_142 rfl (lv_at hl 1 rfl) ?_
                      refine lv_aload hx hb dX4_amend_143 (lv_at hl 0 rfl) ?_
                      refine lv_iload_n hx hb dX4_amend_145 rfl (lv_at hl 3 rfl) ?_
                      refine lv_bipush (v := 6) hx hb dX4_amend_146 (by decide) ?_
                      refine lv_bipush (v := 8) hx hb dX4_amend_148 (by decide) ?_
                      have hn : k1 ≤ 300 := by omega
                      have hW : pM G (MWl G ad (mdx (xi (xi y 0 0) 3 0) (xi (xi y 0 0) 3 0).1 ((xi (xi y 0 0) 3 0).2.2.2.2.1 0)) ++ ((qo_13, .inr (22, [.int (nI ((((cC S.1).getD ko dC).1).1.length)), .int (nI ((((cC S.1).getD ko dC).1).2.2.length)), .ref an, .ref aw, .ref af, .ref av, .ref at_])) :: (an, .inl (G.2.2.1 3, 8, .inr (.inl nf8))) :: (aw, .inl (G.2.2.1 0, 8, .inl wf8)) :: (af, .inl (G.2.2.1 0, 10, .inl ff8)) :: (av, .inl (G.2.2.1 0, 10, .inl vf8)) :: (at_, .inl (G.2.2.1 0, 10, .inl tf8)) :: W0)) s _ _ := hW
                      refine cx_v (rx_V (As := [.ref qo_13, .int (nI k1), .int 6, .int 8]) (rest := []) hF (mX4_reads l G ad (xi (xi y 0 0) 3 0) W0 (xi (xi y 0 0) 3 0).1 ((xi (xi y 0 0) 3 0).2.2.2.2.1 0) k1 hn (cW S.1) m1.1 b0 m0 hI.1.2.2.1 qo_13 an aw af av at_ nf8 wf8 ff8 vf8 tf8 (((cC S.1).getD ko dC).1) ht8 6 8 (hokb) (by omega) (by omega)) (cwV 4 hts (lw_V q1314 q1316 qs39 q66 q1317) rfl rfl rfl (by decide +kernel) ⟨lb hR1 rfl, lb hR4 rfl⟩) hW (List.mem_of_getElem? (i := 0) rfl) (ci := 20) rfl rfl rfl hl.1 rfl (lv_room (Nat.le_of_ble_eq_true rfl)) dX4_amend_150 ⟨by omega, by omega⟩) hW (fun u_27 H locs h_28 hW => ?_) (fun u_27 H locs h_28 hW => ?_)
                      · obtain ⟨e1, e2, v2, lt2⟩ := u_27
                        have hrd : readS S k1 6 8 (((cC S.1).getD ko dC).1) = .inl (e1, e2) := by unfold readS; rw [← m14]; exact h_28
                        have hW : pM G (MWl G ad (mdx (xi (xi (xi (xi (xi y 0 0) 3 0) 11 0) 21 (nI e1)) 22 (nI e2)) v2 lt2) ++ W0) s _ _ := hW
                        refine ca hF htab rfl rfl (by decide) q1039 (List.mem_of_getElem? (i := 39) rfl) hW (List.mem_of_getElem? (i := 20) rfl) (ci := 21) rfl ?_
                        refine lv_astore (lv' := [(5, .ref (ad 20)), (4, .ref qo_13), (0, .ref (ad 0)), (1, .int (nI k0)), (2, .int (nI k1)), (3, .int 0)]) hx hb dX4_amend_156 hl (by decide) rfl (fun ls hl => ?_)
                        refine lv_aload_n hx hb dX4_amend_158 rfl (lv_at hl 2 rfl) ?_
                        refine lv_aload hx hb dX4_amend_159 (lv_at hl 0 rfl) ?_
                        refine cl_i (ru_V (As := [.ref (ad 20)]) (rest := []) hF (mX4_wrong l G ad (mdx (xi (xi (xi (xi (xi y 0 0) 3 0) 11 0) 21 (nI e1)) 22 (nI e2)) v2 lt2) W0) (cwV 1 hts (lw_V q1334 q1336 qs43 q66 q1337) rfl rfl rfl (by decide +kernel) ⟨lb hR1 rfl, lb hR4 rfl⟩) hW (List.mem_of_getElem? (i := 0) rfl) (ci := 20) rfl rfl rfl hl.1 rfl (lv_room (Nat.le_of_ble_eq_true rfl)) dX4_amend_161 ⟨by omega, by omega⟩) hW (fun r_ u_ H locs h_ hW => ?_)
                        obtain ⟨rfl, rfl⟩ : r_ = -1 ∧ u_ = _ := h_
                        have hW : pM G (MWl G ad (xi (xi (xi (mdx (xi (xi (xi (xi (xi y 0 0) 3 0) 11 0) 21 (nI e1)) 22 (nI e2)) v2 lt2) 1 4) 2 (nI e2)) 3 (nI e1)) ++ W0) s _ _ := hW
                        refine lv_istore (lv' := [(6, .int (-1)), (5, .ref (ad 20)), (4, .ref qo_13), (0, .ref (ad 0)), (1, .int (nI k0)), (2, .int (nI k1)), (3, .int 0)]) hx hb dX4_amend_164 hl (by decide) rfl (fun ls hl => ?_)
                        refine lv_iconst (v := 0) hx hb dX4_amend_166 (by decide) ?_
                        exact re_z hF hRt hLk hQ (by omega) (by omega) (by decide) dX4_amend_167 ((xi (xi (xi (mdx (xi (xi (xi (xi (xi y 0 0) 3 0) 11 0) 21 (nI e1)) 22 (nI e2)) v2 lt2) 1 4) 2 (nI e2)) 3 (nI e1)), []) (by unfold amendS; rw [hi0]; dsimp only; rw [hi1]; dsimp only; rw [if_neg (fun z => z hg), if_neg hst, hon]; rw [show readS S k1 6 8 (baseT S.1 (some ko)) = _ from hrd]; exact ⟨rfl, MR.nil ⟨m0, m1, m2, m3, m4, m5, m6, m7, m8, m9, m10, m11, m12, rfl, m14, rfl, rfl, rfl, m18, m19, m20, m21, m22⟩⟩) (pM.nil (hW))
                      · obtain ⟨t9, nf9, wf9, ff9, vf9, tf9, v2, lt2⟩ := u_27
                        obtain ⟨hrd, hok9, ht9⟩ := h_28
                        have hrd : readS S k1 6 8 (((cC S.1).getD ko dC).1) = .inr t9 := by unfold readS; rw [← m14]; exact hrd
                        have hok9 : TxOk (cW S.1).length 6 8 t9 := hok9
                        have ht9 : MHc t9 nf9 wf9 ff9 vf9 tf9 := ht9
                        have hW : pM G (MWl G ad (mdx (xi (xi (xi y 0 0) 3 0) 11 0) v2 lt2) ++ ((qo_13, .inr (22, [.int (nI t9.1.length), .int (nI t9.2.2.length), .ref an, .ref aw, .ref af, .ref av, .ref at_])) :: (an, .inl (G.2.2.1 3, 8, .inr (.inl nf9))) :: (aw, .inl (G.2.2.1 0, 8, .inl wf9)) :: (af, .inl (G.2.2.1 0, 10, .inl ff9)) :: (av, .inl (G.2.2.1 0, 10, .inl vf9)) :: (at_, .inl (G.2.2.1 0, 10, .inl tf9)) :: W0)) s _ _ := hW
                        refine lv_goto (tgt := 168) hx hb dX4_amend_153 (by decide) ?_
                        have hfi := (hI.2.2.2.2.1.2 k0 hk0).2.1
                        refine lv_aload_n hx hb dX4_amend_168 rfl (lv_at hl 1 rfl) ?_
                        refine lv_aload_n hx hb dX4_amend_169 rfl (lv_at hl 1 rfl) ?_
                        refine gM0_file hF hW q1108 dX4_amend_170 ?_
                        refine lv_aload_n hx hb dX4_amend_173 rfl (lv_at hl 1 rfl) ?_
                        refine gM0_claimFile hF hW q1116 dX4_amend_174 ?_
                        refine lv_iload_n hx hb dX4_amend_177 rfl (lv_at hl 2 rfl) ?_
                        refine lM12 hF hW (j := k0) (rfl) (by omega) (v := nI ((cC S.1).getD k0 dC).2.1) ((m9 k0 hk0).2.1) dX4_amend_178 ?_
                        obtain ⟨qf, hqf1, hqf2⟩ := (m5 ((cC S.1).getD k0 dC).2.1 hfi).1
                        refine lM4 hF hW (j := ((cC S.1).getD k0 dC).2.1) (rfl) (by omega) (r := qf) (hqf1) dX4_amend_179 ?_
                        refine lv_aload hx hb dX4_amend_180 (lv_at hl 0 rfl) ?_
                        have hokf := (hI.2.2.1.2 ((cC S.1).getD k0 dC).2.1 hfi).1
                        have hW : pM G (MWl G ad (mfx (mdx (xi (xi (xi y 0 0) 3 0) 11 0) v2 lt2) ((mdx (xi (xi (xi y 0 0) 3 0) 11 0) v2 lt2).1 17) ((mdx (xi (xi (xi y 0 0) 3 0) 11 0) v2 lt2).2.1 14) ((mdx (xi (xi (xi y 0 0) 3 0) 11 0) v2 lt2).2.1 15)) ++ ((qo_13, .inr (22, [.int (nI t9.1.length), .int (nI t9.2.2.length), .ref an, .ref aw, .ref af, .ref av, .ref at_])) :: (an, .inl (G.2.2.1 3, 8, .inr (.inl nf9))) :: (aw, .inl (G.2.2.1 0, 8, .inl wf9)) :: (af, .inl (G.2.2.1 0, 10, .inl ff9)) :: (av, .inl (G.2.2.1 0, 10, .inl vf9)) :: (at_, .inl (G.2.2.1 0, 10, .inl tf9)) :: W0)) s _ _ := hW
                        refine cl_i (ru_V (As := [.ref qf, .ref qo_13]) (rest := []) hF (mX4_discloses l G ad (mdx (xi (xi (xi y 0 0) 3 0) 11 0) v2 lt2) ((qo_13, .inr (22, [.int (nI t9.1.length), .int (nI t9.2.2.length), .ref an, .ref aw, .ref af, .ref av, .ref at_])) :: (an, .inl (G.2.2.1 3, 8, .inr (.inl nf9))) :: (aw, .inl (G.2.2.1 0, 8, .inl wf9)) :: (af, .inl (G.2.2.1 0, 10, .inl ff9)) :: (av, .inl (G.2.2.1 0, 10, .inl vf9)) :: (at_, .inl (G.2.2.1 0, 10, .inl tf9)) :: W0) ((mdx (xi (xi (xi y 0 0) 3 0) 11 0) v2 lt2).1 17) ((mdx (xi (xi (xi y 0 0) 3 0) 11 0) v2 lt2).2.1 14) ((mdx (xi (xi (xi y 0 0) 3 0) 11 0) v2 lt2).2.1 15) qo_13 qf t9 (((cF S.1).getD ((cC S.1).getD k0 dC).2.1 dF).1) (⟨an, aw, af, av, at_, nf9, wf9, ff9, vf9, tf9, List.mem_of_getElem? (i := 0) rfl, List.mem_of_getElem? (i := 1) rfl, List.mem_of_getElem? (i := 2) rfl, List.mem_of_getElem? (i := 3) rfl, List.mem_of_getElem? (i := 4) rfl, List.mem_of_getElem? (i := 5) rfl, ht9.2⟩) (hqf2.u.mono (fun z h => List.mem_cons_of_mem _ (List.mem_cons_of_mem _ (List.mem_cons_of_mem _ (List.mem_cons_of_mem _ (List.mem_cons_of_mem _ (List.mem_cons_of_mem _ (hT z h)))))))) (cW S.1).length (WdOk.cg m1.2 (wdF_ok hI)) b0 hok9.wide hokf) (cwV 2 hts (lw_V q1362 q1364 qs46 q66 q1365) rfl rfl rfl (by decide +kernel) ⟨lb hR1 rfl, lb hR4 rfl⟩) hW (List.mem_of_getElem? (i := 0) rfl) (ci := 20) rfl rfl rfl hl.1 rfl (lv_room (Nat.le_of_ble_eq_true rfl)) dX4_amend_182 ⟨by omega, by omega⟩) hW (fun r_ u_ H locs h_ hW => ?_)
                        obtain ⟨w2, go2, fi2⟩ := u_
                        have hW : pM G (MWl G ad (mfx (mdx (xi (xi (xi y 0 0) 3 0) 11 0) v2 lt2) w2 go2 fi2) ++ ((qo_13, .inr (22, [.int (nI t9.1.length), .int (nI t9.2.2.length), .ref an, .ref aw, .ref af, .ref av, .ref at_])) :: (an, .inl (G.2.2.1 3, 8, .inr (.inl nf9))) :: (aw, .inl (G.2.2.1 0, 8, .inl wf9)) :: (af, .inl (G.2.2.1 0, 10, .inl ff9)) :: (av, .inl (G.2.2.1 0, 10, .inl vf9)) :: (at_, .inl (G.2.2.1 0, 10, .inl tf9)) :: W0)) s _ _ := hW
                        rcases h_ with ⟨rfl, hd⟩ | ⟨rfl, hd⟩
                        · have hd : disA S.1 (((cF S.1).getD ((cC S.1).getD k0 dC).2.1 dF).1) t9 = true := by unfold disA; rw [← disB_cg (wd := wdF S.1) m1.2 (wdF_ok hI) b0 hokf]; exact hd
                          refine lv_if_ne (tgt := 194) hx hb dX4_amend_185 (by decide) (fun c_185 => ?_) (fun c_185 => absurd c_185 (by decide))
                          refine lv_aload_n hx hb dX4_amend_194 rfl (lv_at hl 1 rfl) ?_
                          refine lv_aload hx hb dX4_amend_195 (lv_at hl 0 rfl) ?_
                          refine lv_aload_n hx hb dX4_amend_197 rfl (lv_at hl 1 rfl) ?_
                          refine gM0_claim hF hW q1110 dX4_amend_198 ?_
                          refine lv_iload_n hx hb dX4_amend_201 rfl (lv_at hl 2 rfl) ?_
                          obtain ⟨qc, hqc1, hqc2⟩ := (m9 k0 hk0).1
                          refine lM6 hF hW (j := k0) (rfl) (by omega) (r := qc) (hqc1) dX4_amend_202 ?_
                          have hokc := (hI.2.2.2.2.1.2 k0 hk0).1
                          have hW : pM G (MWl G ad (mfx (mfx (mdx (xi (xi (xi y 0 0) 3 0) 11 0) v2 lt2) w2 go2 fi2) ((mfx (mdx (xi (xi (xi y 0 0) 3 0) 11 0) v2 lt2) w2 go2 fi2).1 17) ((mfx (mdx (xi (xi (xi y 0 0) 3 0) 11 0) v2 lt2) w2 go2 fi2).2.1 14) ((mfx (mdx (xi (xi (xi y 0 0) 3 0) 11 0) v2 lt2) w2 go2 fi2).2.1 15)) ++ ((qo_13, .inr (22, [.int (nI t9.1.length), .int (nI t9.2.2.length), .ref an, .ref aw, .ref af, .ref av, .ref at_])) :: (an, .inl (G.2.2.1 3, 8, .inr (.inl nf9))) :: (aw, .inl (G.2.2.1 0, 8, .inl wf9)) :: (af, .inl (G.2.2.1 0, 10, .inl ff9)) :: (av, .inl (G.2.2.1 0, 10, .inl vf9)) :: (at_, .inl (G.2.2.1 0, 10, .inl tf9)) :: W0)) s _ _ := hW
                          refine cl_i (ru_V (As := [.ref qo_13, .ref qc]) (rest := []) hF (mX4_discloses l G ad (mfx (mdx (xi (xi (xi y 0 0) 3 0) 11 0) v2 lt2) w2 go2 fi2) ((qo_13, .inr (22, [.int (nI t9.1.length), .int (nI t9.2.2.length), .ref an, .ref aw, .ref af, .ref av, .ref at_])) :: (an, .inl (G.2.2.1 3, 8, .inr (.inl nf9))) :: (aw, .inl (G.2.2.1 0, 8, .inl wf9)) :: (af, .inl (G.2.2.1 0, 10, .inl ff9)) :: (av, .inl (G.2.2.1 0, 10, .inl vf9)) :: (at_, .inl (G.2.2.1 0, 10, .inl tf9)) :: W0) ((mfx (mdx (xi (xi (xi y 0 0) 3 0) 11 0) v2 lt2) w2 go2 fi2).1 17) ((mfx (mdx (xi (xi (xi y 0 0) 3 0) 11 0) v2 lt2) w2 go2 fi2).2.1 14) ((mfx (mdx (xi (xi (xi y 0 0) 3 0) 11 0) v2 lt2) w2 go2 fi2).2.1 15) qc qo_13 (((cC S.1).getD k0 dC).1) t9 (hqc2.u.mono (fun z h => List.mem_cons_of_mem _ (List.mem_cons_of_mem _ (List.mem_cons_of_mem _ (List.mem_cons_of_mem _ (List.mem_cons_of_mem _ (List.mem_cons_of_mem _ (hT z h)))))))) (⟨an, aw, af, av, at_, nf9, wf9, ff9, vf9, tf9, List.mem_of_getElem? (i := 0) rfl, List.mem_of_getElem? (i := 1) rfl, List.mem_of_getElem? (i := 2) rfl, List.mem_of_getElem? (i := 3) rfl, List.mem_of_getElem? (i := 4) rfl, List.mem_of_getElem? (i := 5) rfl, ht9.2⟩) (cW S.1).length (WdOk.cg m1.2 (wdF_ok hI)) b0 hokc.wide hok9.wide) (cwV 2 hts (lw_V q1362 q1364 qs46 q66 q1365) rfl rfl rfl (by decide +kernel) ⟨lb hR1 rfl, lb hR4 rfl⟩) hW (List.mem_of_getElem? (i := 0) rfl) (ci := 20) rfl rfl rfl hl.1 rfl (lv_room (Nat.le_of_ble_eq_true rfl)) dX4_amend_203 ⟨by omega, by omega⟩) hW (fun r_ u_ H locs h_ hW => ?_)
                          obtain ⟨w2, go2, fi2⟩ := u_
                          have hW : pM G (MWl G ad (mfx (mfx (mdx (xi (xi (xi y 0 0) 3 0) 11 0) v2 lt2) w2 go2 fi2) w2 go2 fi2) ++ ((qo_13, .inr (22, [.int (nI t9.1.length), .int (nI t9.2.2.length), .ref an, .ref aw, .ref af, .ref av, .ref at_])) :: (an, .inl (G.2.2.1 3, 8, .inr (.inl nf9))) :: (aw, .inl (G.2.2.1 0, 8, .inl wf9)) :: (af, .inl (G.2.2.1 0, 10, .inl ff9)) :: (av, .inl (G.2.2.1 0, 10, .inl vf9)) :: (at_, .inl (G.2.2.1 0, 10, .inl tf9)) :: W0)) s _ _ := hW
                          rcases h_ with ⟨rfl, hd2⟩ | ⟨rfl, hd2⟩
                          · have hd2 : disA S.1 t9 (((cC S.1).getD k0 dC).1) = true := by unfold disA; rw [← disB_cg (wd := wdF S.1) m1.2 (wdF_ok hI) b0 hok9.wide]; exact hd2
                            refine lv_if_ne (tgt := 216) hx hb dX4_amend_206 (by decide) (fun c_206 => ?_) (fun c_206 => absurd c_206 (by decide))
                            have hml : ∀ z ∈ T, z ∈ T ++ [(qo_13, .inr (22, [.int (nI t9.1.length), .int (nI t9.2.2.length), .ref an, .ref aw, .ref af, .ref av, .ref at_])), (an, .inl (G.2.2.1 3, 8, .inr (.inl nf9))), (aw, .inl (G.2.2.1 0, 8, .inl wf9)), (af, .inl (G.2.2.1 0, 10, .inl ff9)), (av, .inl (G.2.2.1 0, 10, .inl vf9)), (at_, .inl (G.2.2.1 0, 10, .inl tf9))] := fun z h => List.mem_append_left _ h
                            have hmt : MT G (T ++ [(qo_13, .inr (22, [.int (nI t9.1.length), .int (nI t9.2.2.length), .ref an, .ref aw, .ref af, .ref av, .ref at_])), (an, .inl (G.2.2.1 3, 8, .inr (.inl nf9))), (aw, .inl (G.2.2.1 0, 8, .inl wf9)), (af, .inl (G.2.2.1 0, 10, .inl ff9)), (av, .inl (G.2.2.1 0, 10, .inl vf9)), (at_, .inl (G.2.2.1 0, 10, .inl tf9))]) qo_13 t9 := ⟨an, aw, af, av, at_, nf9, wf9, ff9, vf9, tf9, List.mem_append_right _ (List.mem_of_getElem? (i := 0) rfl), List.mem_append_right _ (List.mem_of_getElem? (i := 1) rfl), List.mem_append_right _ (List.mem_of_getElem? (i := 2) rfl), List.mem_append_right _ (List.mem_of_getElem? (i := 3) rfl), List.mem_append_right _ (List.mem_of_getElem? (i := 4) rfl), List.mem_append_right _ (List.mem_of_getElem? (i := 5) rfl), ht9⟩
                            refine lv_aload_n hx hb dX4_amend_216 rfl (lv_at hl 1 rfl) ?_
                            refine lv_bipush (v := 6) hx hb dX4_amend_217 (by decide) ?_
                            refine lv_iload_n hx hb dX4_amend_219 rfl (lv_at hl 2 rfl) ?_
                            refine lv_aload_n hx hb dX4_amend_220 rfl (lv_at hl 1 rfl) ?_
                            refine gM0_claim hF hW q1110 dX4_amend_221 ?_
                            refine lv_iload_n hx hb dX4_amend_224 rfl (lv_at hl 2 rfl) ?_
                            refine lM6 hF hW (j := k0) (rfl) (by omega) (r := qc) (hqc1) dX4_amend_225 ?_
                            obtain ⟨an7, aw7, af7, av7, at7, nf7, wf7, ff7, vf7, tf7, hq7, -⟩ := id hqc2
                            refine cl_v (ru_V (As := [.int 6, .int (nI k0), .ref qc]) (rest := []) hF (mX4_act_t l G ad (mfx (mfx (mdx (xi (xi (xi y 0 0) 3 0) 11 0) v2 lt2) w2 go2 fi2) w2 go2 fi2) ((qo_13, .inr (22, [.int (nI t9.1.length), .int (nI t9.2.2.length), .ref an, .ref aw, .ref af, .ref av, .ref at_])) :: (an, .inl (G.2.2.1 3, 8, .inr (.inl nf9))) :: (aw, .inl (G.2.2.1 0, 8, .inl wf9)) :: (af, .inl (G.2.2.1 0, 10, .inl ff9)) :: (av, .inl (G.2.2.1 0, 10, .inl vf9)) :: (at_, .inl (G.2.2.1 0, 10, .inl tf9)) :: W0) S.2.1.length (by omega) m11 6 (nI k0) qc an7 aw7 af7 av7 at7 (nI ((cC S.1).getD k0 dC).1.1.length) (nI ((cC S.1).getD k0 dC).1.2.2.length) ((fun z h => List.mem_cons_of_mem _ (List.mem_cons_of_mem _ (List.mem_cons_of_mem _ (List.mem_cons_of_mem _ (List.mem_cons_of_mem _ (List.mem_cons_of_mem _ (hT z h))))))) _ hq7)) (cwV 3 hts (lw_V q1283 q1285 qs35 q66 q1286) rfl rfl rfl (by decide +kernel) ⟨lb hR1 rfl, lb hR4 rfl⟩) hW (List.mem_of_getElem? (i := 0) rfl) (ci := 20) rfl rfl rfl hl.1 rfl (lv_room (Nat.le_of_ble_eq_true rfl)) dX4_amend_226 ⟨by omega, by omega⟩) hW (fun u_ H locs h_ hW => ?_)
                            obtain rfl : u_ = _ := h_
                            have hW : pM G (MWl G ad (xr (xa (xa (xi (mfx (mfx (mdx (xi (xi (xi y 0 0) 3 0) 11 0) v2 lt2) w2 go2 fi2) w2 go2 fi2) 10 (nI (S.2.1.length + 1))) 11 (va_up ((mfx (mfx (mdx (xi (xi (xi y 0 0) 3 0) 11 0) v2 lt2) w2 go2 fi2) w2 go2 fi2).2.1 11) S.2.1.length 6)) 12 (va_up ((mfx (mfx (mdx (xi (xi (xi y 0 0) 3 0) 11 0) v2 lt2) w2 go2 fi2) w2 go2 fi2).2.1 12) S.2.1.length (nI k0))) 4 (va_up ((mfx (mfx (mdx (xi (xi (xi y 0 0) 3 0) 11 0) v2 lt2) w2 go2 fi2) w2 go2 fi2).2.2.1 4) S.2.1.length (some qc))) ++ ((qo_13, .inr (22, [.int (nI t9.1.length), .int (nI t9.2.2.length), .ref an, .ref aw, .ref af, .ref av, .ref at_])) :: (an, .inl (G.2.2.1 3, 8, .inr (.inl nf9))) :: (aw, .inl (G.2.2.1 0, 8, .inl wf9)) :: (af, .inl (G.2.2.1 0, 10, .inl ff9)) :: (av, .inl (G.2.2.1 0, 10, .inl vf9)) :: (at_, .inl (G.2.2.1 0, 10, .inl tf9)) :: W0)) s _ _ := hW
                            refine lv_aload_n hx hb dX4_amend_229 rfl (lv_at hl 1 rfl) ?_
                            refine gM0_claim hF hW q1110 dX4_amend_230 ?_
                            refine lv_iload_n hx hb dX4_amend_233 rfl (lv_at hl 2 rfl) ?_
                            refine lv_aload hx hb dX4_amend_234 (lv_at hl 0 rfl) ?_
                            refine sM6 hF hW (ms_r (List.mem_of_getElem? (i := 0) rfl)) (ci := 22) rfl rfl (j := k0) (rfl) (by omega) dX4_amend_236 (fun H locs hW => ?_)
                            have hW : pM G (MWl G ad (xr (xr (xa (xa (xi (mfx (mfx (mdx (xi (xi (xi y 0 0) 3 0) 11 0) v2 lt2) w2 go2 fi2) w2 go2 fi2) 10 (nI (S.2.1.length + 1))) 11 (va_up ((mfx (mfx (mdx (xi (xi (xi y 0 0) 3 0) 11 0) v2 lt2) w2 go2 fi2) w2 go2 fi2).2.1 11) S.2.1.length 6)) 12 (va_up ((mfx (mfx (mdx (xi (xi (xi y 0 0) 3 0) 11 0) v2 lt2) w2 go2 fi2) w2 go2 fi2).2.1 12) S.2.1.length (nI k0))) 3 (va_up ((mfx (mfx (mdx (xi (xi (xi y 0 0) 3 0) 11 0) v2 lt2) w2 go2 fi2) w2 go2 fi2).2.2.1 3) k0 (some qo_13))) 4 (va_up ((mfx (mfx (mdx (xi (xi (xi y 0 0) 3 0) 11 0) v2 lt2) w2 go2 fi2) w2 go2 fi2).2.2.1 4) S.2.1.length (some qc))) ++ ((qo_13, .inr (22, [.int (nI t9.1.length), .int (nI t9.2.2.length), .ref an, .ref aw, .ref af, .ref av, .ref at_])) :: (an, .inl (G.2.2.1 3, 8, .inr (.inl nf9))) :: (aw, .inl (G.2.2.1 0, 8, .inl wf9)) :: (af, .inl (G.2.2.1 0, 10, .inl ff9)) :: (av, .inl (G.2.2.1 0, 10, .inl vf9)) :: (at_, .inl (G.2.2.1 0, 10, .inl tf9)) :: W0)) s _ _ := hW
                            refine lv_aload_n hx hb dX4_amend_237 rfl (lv_at hl 1 rfl) ?_
                            refine cl_i (ru_V (As := []) (rest := []) hF (mX4_granted l G ad (xr (xr (xa (xa (xi (mfx (mfx (mdx (xi (xi (xi y 0 0) 3 0) 11 0) v2 lt2) w2 go2 fi2) w2 go2 fi2) 10 (nI (S.2.1.length + 1))) 11 (va_up ((mfx (mfx (mdx (xi (xi (xi y 0 0) 3 0) 11 0) v2 lt2) w2 go2 fi2) w2 go2 fi2).2.1 11) S.2.1.length 6)) 12 (va_up ((mfx (mfx (mdx (xi (xi (xi y 0 0) 3 0) 11 0) v2 lt2) w2 go2 fi2) w2 go2 fi2).2.1 12) S.2.1.length (nI k0))) 3 (va_up ((mfx (mfx (mdx (xi (xi (xi y 0 0) 3 0) 11 0) v2 lt2) w2 go2 fi2) w2 go2 fi2).2.2.1 3) k0 (some qo_13))) 4 (va_up ((mfx (mfx (mdx (xi (xi (xi y 0 0) 3 0) 11 0) v2 lt2) w2 go2 fi2) w2 go2 fi2).2.2.1 4) S.2.1.length (some qc))) ((qo_13, .inr (22, [.int (nI t9.1.length), .int (nI t9.2.2.length), .ref an, .ref aw, .ref af, .ref av, .ref at_])) :: (an, .inl (G.2.2.1 3, 8, .inr (.inl nf9))) :: (aw, .inl (G.2.2.1 0, 8, .inl wf9)) :: (af, .inl (G.2.2.1 0, 10, .inl ff9)) :: (av, .inl (G.2.2.1 0, 10, .inl vf9)) :: (at_, .inl (G.2.2.1 0, 10, .inl tf9)) :: W0) ) (cwV 0 hts (lw_V q1386 q1388 qs51 q66 q1389) rfl rfl rfl (by decide +kernel) ⟨lb hR1 rfl, lb hR4 rfl⟩) hW (List.mem_of_getElem? (i := 0) rfl) (ci := 20) rfl rfl rfl hl.1 rfl (lv_room (Nat.le_of_ble_eq_true rfl)) dX4_amend_238 ⟨by omega, by omega⟩) hW (fun r_29 u_30 H locs h_31 hW => ?_)
                            obtain ⟨rfl, rfl⟩ : r_29 = 1 ∧ u_30 = _ := h_31
                            have hW : pM G (MWl G ad (xr (xr (xa (xa (xi (xi (xi (mfx (mfx (mdx (xi (xi (xi y 0 0) 3 0) 11 0) v2 lt2) w2 go2 fi2) w2 go2 fi2) 1 0) 2 (-1)) 10 (nI (S.2.1.length + 1))) 11 (va_up ((mfx (mfx (mdx (xi (xi (xi y 0 0) 3 0) 11 0) v2 lt2) w2 go2 fi2) w2 go2 fi2).2.1 11) S.2.1.length 6)) 12 (va_up ((mfx (mfx (mdx (xi (xi (xi y 0 0) 3 0) 11 0) v2 lt2) w2 go2 fi2) w2 go2 fi2).2.1 12) S.2.1.length (nI k0))) 3 (va_up ((mfx (mfx (mdx (xi (xi (xi y 0 0) 3 0) 11 0) v2 lt2) w2 go2 fi2) w2 go2 fi2).2.2.1 3) k0 (some qo_13))) 4 (va_up ((mfx (mfx (mdx (xi (xi (xi y 0 0) 3 0) 11 0) v2 lt2) w2 go2 fi2) w2 go2 fi2).2.2.1 4) S.2.1.length (some qc))) ++ ((qo_13, .inr (22, [.int (nI t9.1.length), .int (nI t9.2.2.length), .ref an, .ref aw, .ref af, .ref av, .ref at_])) :: (an, .inl (G.2.2.1 3, 8, .inr (.inl nf9))) :: (aw, .inl (G.2.2.1 0, 8, .inl wf9)) :: (af, .inl (G.2.2.1 0, 10, .inl ff9)) :: (av, .inl (G.2.2.1 0, 10, .inl vf9)) :: (at_, .inl (G.2.2.1 0, 10, .inl tf9)) :: W0)) s _ _ := hW
                            exact re_z hF hRt hLk hQ (by omega) (by omega) (by decide) dX4_amend_241 ((xr (xr (xa (xa (xi (xi (xi (mfx (mfx (mdx (xi (xi (xi y 0 0) 3 0) 11 0) v2 lt2) w2 go2 fi2) w2 go2 fi2) 1 0) 2 (-1)) 10 (nI (S.2.1.length + 1))) 11 (va_up ((mfx (mfx (mdx (xi (xi (xi y 0 0) 3 0) 11 0) v2 lt2) w2 go2 fi2) w2 go2 fi2).2.1 11) S.2.1.length 6)) 12 (va_up ((mfx (mfx (mdx (xi (xi (xi y 0 0) 3 0) 11 0) v2 lt2) w2 go2 fi2) w2 go2 fi2).2.1 12) S.2.1.length (nI k0))) 3 (va_up ((mfx (mfx (mdx (xi (xi (xi y 0 0) 3 0) 11 0) v2 lt2) w2 go2 fi2) w2 go2 fi2).2.2.1 3) k0 (some qo_13))) 4 (va_up ((mfx (mfx (mdx (xi (xi (xi y 0 0) 3 0) 11 0) v2 lt2) w2 go2 fi2) w2 go2 fi2).2.2.1 4) S.2.1.length (some qc))), [(qo_13, .inr (22, [.int (nI t9.1.length), .int (nI t9.2.2.length), .ref an, .ref aw, .ref af, .ref av, .ref at_])), (an, .inl (G.2.2.1 3, 8, .inr (.inl nf9))), (aw, .inl (G.2.2.1 0, 8, .inl wf9)), (af, .inl (G.2.2.1 0, 10, .inl ff9)), (av, .inl (G.2.2.1 0, 10, .inl vf9)), (at_, .inl (G.2.2.1 0, 10, .inl tf9))]) (by unfold amendS; rw [hi0]; dsimp only; rw [hi1]; dsimp only; rw [if_neg (fun z => z hg), if_neg hst, hon]; rw [show readS S k1 6 8 (baseT S.1 (some ko)) = _ from hrd]; dsimp only; rw [if_neg (by rw [hd]; decide), if_neg (by rw [hd2]; decide)]; exact ⟨rfl, ⟨m0, m1, m2, m3.mono hml, m4, m5.mono hml, m6, m7.mono hml, m8.trans (congrArg nI modC_len.symm), ClaR.tx (m9.mono hml) hk0 hmt, m10, rfl, ActM.add (a := (6, k0, 0, ((cC S.1).getD k0 dC).1)) (m12.mono hml) (fun _ => ⟨qc, rfl, hqc2.mono hml⟩), rfl, m14, rfl, rfl, rfl, m18, m19, m20, m21, m22⟩⟩) (pM.swp [(qo_13, .inr (22, [.int (nI t9.1.length), .int (nI t9.2.2.length), .ref an, .ref aw, .ref af, .ref av, .ref at_])), (an, .inl (G.2.2.1 3, 8, .inr (.inl nf9))), (aw, .inl (G.2.2.1 0, 8, .inl wf9)), (af, .inl (G.2.2.1 0, 10, .inl ff9)), (av, .inl (G.2.2.1 0, 10, .inl vf9)), (at_, .inl (G.2.2.1 0, 10, .inl tf9))] hW)
                          · have hd2 : disA S.1 t9 (((cC S.1).getD k0 dC).1) = false := by unfold disA; rw [← disB_cg (wd := wdF S.1) m1.2 (wdF_ok hI) b0 hok9.wide]; exact hd2
                            refine lv_if_ne (tgt := 216) hx hb dX4_amend_206 (by decide) (fun c_206 => absurd c_206 (by decide)) (fun c_206 => ?_)
                            refine lv_aload_n hx hb dX4_amend_209 rfl (lv_at hl 1 rfl) ?_
                            refine lv_bipush (v := 6) hx hb dX4_amend_210 (by decide) ?_
                            refine cl_i (ru_V (As := [.int 6]) (rest := []) hF (mX4_denied l G ad (mfx (mfx (mdx (xi (xi (xi y 0 0) 3 0) 11 0) v2 lt2) w2 go2 fi2) w2 go2 fi2) ((qo_13, .inr (22, [.int (nI t9.1.length), .int (nI t9.2.2.length), .ref an, .ref aw, .ref af, .ref av, .ref at_])) :: (an, .inl (G.2.2.1 3, 8, .inr (.inl nf9))) :: (aw, .inl (G.2.2.1 0, 8, .inl wf9)) :: (af, .inl (G.2.2.1 0, 10, .inl ff9)) :: (av, .inl (G.2.2.1 0, 10, .inl vf9)) :: (at_, .inl (G.2.2.1 0, 10, .inl tf9)) :: W0) 6) (cwV 1 hts (lw_V q1382 q1384 qs50 q66 q1385) rfl rfl rfl (by decide +kernel) ⟨lb hR1 rfl, lb hR4 rfl⟩) hW (List.mem_of_getElem? (i := 0) rfl) (ci := 20) rfl rfl rfl hl.1 rfl (lv_room (Nat.le_of_ble_eq_true rfl)) dX4_amend_212 ⟨by omega, by omega⟩) hW (fun r_32 u_33 H locs h_34 hW => ?_)
                            obtain ⟨rfl, rfl⟩ : r_32 = 0 ∧ u_33 = _ := h_34
                            have hW : pM G (MWl G ad (xi (xi (mfx (mfx (mdx (xi (xi (xi y 0 0) 3 0) 11 0) v2 lt2) w2 go2 fi2) w2 go2 fi2) 1 6) 2 (-1)) ++ ((qo_13, .inr (22, [.int (nI t9.1.length), .int (nI t9.2.2.length), .ref an, .ref aw, .ref af, .ref av, .ref at_])) :: (an, .inl (G.2.2.1 3, 8, .inr (.inl nf9))) :: (aw, .inl (G.2.2.1 0, 8, .inl wf9)) :: (af, .inl (G.2.2.1 0, 10, .inl ff9)) :: (av, .inl (G.2.2.1 0, 10, .inl vf9)) :: (at_, .inl (G.2.2.1 0, 10, .inl tf9)) :: W0)) s _ _ := hW
                            exact re_z hF hRt hLk hQ (by omega) (by omega) (by decide) dX4_amend_215 ((xi (xi (mfx (mfx (mdx (xi (xi (xi y 0 0) 3 0) 11 0) v2 lt2) w2 go2 fi2) w2 go2 fi2) 1 6) 2 (-1)), []) (by unfold amendS; rw [hi0]; dsimp only; rw [hi1]; dsimp only; rw [if_neg (fun z => z hg), if_neg hst, hon]; rw [show readS S k1 6 8 (baseT S.1 (some ko)) = _ from hrd]; dsimp only; rw [if_neg (by rw [hd]; decide), if_pos hd2]; exact ⟨rfl, MR.nil ⟨m0, m1, m2, m3, m4, m5, m6, m7, m8, m9, m10, m11, m12, rfl, m14, rfl, rfl, rfl, m18, m19, m20, m21, m22⟩⟩) (pM.nil (pM.drop6 hW))
                        · have hd : disA S.1 (((cF S.1).getD ((cC S.1).getD k0 dC).2.1 dF).1) t9 = false := by unfold disA; rw [← disB_cg (wd := wdF S.1) m1.2 (wdF_ok hI) b0 hokf]; exact hd
                          refine lv_if_ne (tgt := 194) hx hb dX4_amend_185 (by decide) (fun c_185 => absurd c_185 (by decide)) (fun c_185 => ?_)
                          refine lv_aload_n hx hb dX4_amend_188 rfl (lv_at hl 1 rfl) ?_
                          refine lv_iconst (v := 5) hx hb dX4_amend_189 (by decide) ?_
                          refine cl_i (ru_V (As := [.int 5]) (rest := []) hF (mX4_denied l G ad (mfx (mdx (xi (xi (xi y 0 0) 3 0) 11 0) v2 lt2) w2 go2 fi2) ((qo_13, .inr (22, [.int (nI t9.1.length), .int (nI t9.2.2.length), .ref an, .ref aw, .ref af, .ref av, .ref at_])) :: (an, .inl (G.2.2.1 3, 8, .inr (.inl nf9))) :: (aw, .inl (G.2.2.1 0, 8, .inl wf9)) :: (af, .inl (G.2.2.1 0, 10, .inl ff9)) :: (av, .inl (G.2.2.1 0, 10, .inl vf9)) :: (at_, .inl (G.2.2.1 0, 10, .inl tf9)) :: W0) 5) (cwV 1 hts (lw_V q1382 q1384 qs50 q66 q1385) rfl rfl rfl (by decide +kernel) ⟨lb hR1 rfl, lb hR4 rfl⟩) hW (List.mem_of_getElem? (i := 0) rfl) (ci := 20) rfl rfl rfl hl.1 rfl (lv_room (Nat.le_of_ble_eq_true rfl)) dX4_amend_190 ⟨by omega, by omega⟩) hW (fun r_35 u_36 H locs h_37 hW => ?_)
                          obtain ⟨rfl, rfl⟩ : r_35 = 0 ∧ u_36 = _ := h_37
                          have hW : pM G (MWl G ad (xi (xi (mfx (mdx (xi (xi (xi y 0 0) 3 0) 11 0) v2 lt2) w2 go2 fi2) 1 5) 2 (-1)) ++ ((qo_13, .inr (22, [.int (nI t9.1.length), .int (nI t9.2.2.length), .ref an, .ref aw, .ref af, .ref av, .ref at_])) :: (an, .inl (G.2.2.1 3, 8, .inr (.inl nf9))) :: (aw, .inl (G.2.2.1 0, 8, .inl wf9)) :: (af, .inl (G.2.2.1 0, 10, .inl ff9)) :: (av, .inl (G.2.2.1 0, 10, .inl vf9)) :: (at_, .inl (G.2.2.1 0, 10, .inl tf9)) :: W0)) s _ _ := hW
                          exact re_z hF hRt hLk hQ (by omega) (by omega) (by decide) dX4_amend_193 ((xi (xi (mfx (mdx (xi (xi (xi y 0 0) 3 0) 11 0) v2 lt2) w2 go2 fi2) 1 5) 2 (-1)), []) (by unfold amendS; rw [hi0]; dsimp only; rw [hi1]; dsimp only; rw [if_neg (fun z => z hg), if_neg hst, hon]; rw [show readS S k1 6 8 (baseT S.1 (some ko)) = _ from hrd]; dsimp only; rw [if_pos hd]; exact ⟨rfl, MR.nil ⟨m0, m1, m2, m3, m4, m5, m6, m7, m8, m9, m10, m11, m12, rfl, m14, rfl, rfl, rfl, m18, m19, m20, m21, m22⟩⟩) (pM.nil (pM.drop6 hW))
                · have hkl : k < (cC S.1).length := nle_lt c_61
                  rcases hth with ⟨rfl, hx9⟩ | ⟨rfl, hx9⟩
                  · refine lv_iload_n hx hb dX4_amend_64 rfl (lv_at hl 3 rfl) ?_
                    refine lv_if_ne (tgt := 79) hx hb dX4_amend_65 (by decide) (fun c_65 => ?_) (fun c_65 => absurd c_65 (by decide))
                    refine lv_iconst (v := 1) hx hb dX4_amend_79 (by decide) ?_
                    refine lv_goto (tgt := 84) hx hb dX4_amend_80 (by decide) ?_
                    refine lv_istore_n (lv' := [(3, .int 1), (0, .ref (ad 0)), (1, .int (nI k0)), (2, .int (nI k1)), (4, .int (nI k))]) hx hb dX4_amend_84 rfl hl (by decide) rfl (fun ls hl => ?_)
                    refine lv_iinc (v := nI (k + 1)) (lv' := [(4, .int (nI (k + 1))), (3, .int 1), (0, .ref (ad 0)), (1, .int (nI k0)), (2, .int (nI k1))]) hx hb dX4_amend_85 hl (k := 4) rfl (nI_1 _) (by decide) rfl (fun ls hl => ?_)
                    refine lv_goto (tgt := 55) hx hb dX4_amend_88 (by decide) ?_
                    exact ih (k + 1) 1 H locs ls (by omega) (by omega) (Or.inl ⟨rfl, hx9⟩) hW (lv_sub hl [2, 3, 4, 1, 0] rfl)
                  · refine lv_iload_n hx hb dX4_amend_64 rfl (lv_at hl 3 rfl) ?_
                    refine lv_if_ne (tgt := 79) hx hb dX4_amend_65 (by decide) (fun c_65 => absurd c_65 (by decide)) (fun c_65 => ?_)
                    refine lv_aload_n hx hb dX4_amend_68 rfl (lv_at hl 0 rfl) ?_
                    refine gM0_claimOn hF hW q1117 dX4_amend_69 ?_
                    refine lv_iload hx hb dX4_amend_72 (lv_at hl 4 rfl) ?_
                    refine lM13 hF hW (j := k) (rfl) (by omega) (v := enc ((cC S.1).getD k dC).2.2.1) ((m9 k hkl).2.2.1) dX4_amend_74 ?_
                    refine lv_iload_n hx hb dX4_amend_75 rfl (lv_at hl 1 rfl) ?_
                    refine lv_icmp_ne (tgt := 83) hx hb dX4_amend_76 (by decide) (fun c_76 => ?_) (fun c_76 => ?_)
                    · refine lv_iconst (v := 0) hx hb dX4_amend_83 (by decide) ?_
                      refine lv_istore_n (lv' := [(3, .int 0), (0, .ref (ad 0)), (1, .int (nI k0)), (2, .int (nI k1)), (4, .int (nI k))]) hx hb dX4_amend_84 rfl hl (by decide) rfl (fun ls hl => ?_)
                      refine lv_iinc (v := nI (k + 1)) (lv' := [(4, .int (nI (k + 1))), (3, .int 0), (0, .ref (ad 0)), (1, .int (nI k0)), (2, .int (nI k1))]) hx hb dX4_amend_85 hl (k := 4) rfl (nI_1 _) (by decide) rfl (fun ls hl => ?_)
                      refine lv_goto (tgt := 55) hx hb dX4_amend_88 (by decide) ?_
                      exact ih (k + 1) 0 H locs ls (by omega) (by omega) (Or.inr ⟨rfl, fun k9 h9 => if h : k9 = k then h ▸ decide_eq_false (fun z => c_76 (by rw [z]; rfl)) else hx9 k9 (by omega)⟩) hW (lv_sub hl [2, 3, 4, 1, 0] rfl)
                    · refine lv_iconst (v := 1) hx hb dX4_amend_79 (by decide) ?_
                      refine lv_goto (tgt := 84) hx hb dX4_amend_80 (by decide) ?_
                      refine lv_istore_n (lv' := [(3, .int 1), (0, .ref (ad 0)), (1, .int (nI k0)), (2, .int (nI k1)), (4, .int (nI k))]) hx hb dX4_amend_84 rfl hl (by decide) rfl (fun ls hl => ?_)
                      refine lv_iinc (v := nI (k + 1)) (lv' := [(4, .int (nI (k + 1))), (3, .int 1), (0, .ref (ad 0)), (1, .int (nI k0)), (2, .int (nI k1))]) hx hb dX4_amend_85 hl (k := 4) rfl (nI_1 _) (by decide) rfl (fun ls hl => ?_)
                      refine lv_goto (tgt := 55) hx hb dX4_amend_88 (by decide) ?_
                      exact ih (k + 1) 1 H locs ls (by omega) (by omega) (Or.inl ⟨rfl, any_yes (d := dC) hkl (decide_eq_true (enc_nI (on_b hI hkl) (by omega) c_76))⟩) hW (lv_sub hl [2, 3, 4, 1, 0] rfl)
            exact loop_55 _ 0 0 _ _ _ (Nat.lt_succ_self _) (Nat.zero_le _) (Or.inr ⟨rfl, fun k9 h9 => absurd h9 (Nat.not_lt_zero _)⟩) hW (lv_sub hl [2, 3, 4, 1, 0] rfl)
          · have hg : ¬ ((cC S.1).getD k0 dC).2.2.2.2.1 = none := fun z => c_40 (by rw [z]; rfl)
            refine lv_aload_n hx hb dX4_amend_43 rfl (lv_at hl 0 rfl) ?_
            refine lv_bipush (v := 7) hx hb dX4_amend_44 (by decide) ?_
            refine cl_i (ru_V (As := [.int 7]) (rest := []) hF (mX4_denied l G ad (xi y 0 0) W0 7) (cwV 1 hts (lw_V q1382 q1384 qs50 q66 q1385) rfl rfl rfl (by decide +kernel) ⟨lb hR1 rfl, lb hR4 rfl⟩) hW (List.mem_of_getElem? (i := 0) rfl) (ci := 20) rfl rfl rfl hl.1 rfl (lv_room (Nat.le_of_ble_eq_true rfl)) dX4_amend_46 ⟨by omega, by omega⟩) hW (fun r_38 u_39 H locs h_40 hW => ?_)
            obtain ⟨rfl, rfl⟩ : r_38 = 0 ∧ u_39 = _ := h_40
            have hW : pM G (MWl G ad (xi (xi (xi y 0 0) 1 7) 2 (-1)) ++ W0) s _ _ := hW
            exact re_z hF hRt hLk hQ (by omega) (by omega) (by decide) dX4_amend_49 ((xi (xi (xi y 0 0) 1 7) 2 (-1)), []) (by unfold amendS; rw [hi0]; dsimp only; rw [hi1]; dsimp only; rw [if_pos hg]; exact ⟨rfl, MR.nil ⟨m0, m1, m2, m3, m4, m5, m6, m7, m8, m9, m10, m11, m12, m13, m14, rfl, m16, rfl, m18, m19, m20, m21, m22⟩⟩) (pM.nil (hW))
        · exact absurd ((by rw [show (xi y 0 0).1 11 = nI S.2.2.2.1 from m13]; exact ixn_in hi1 (by omega) : 0 ≤ (nI k1) ∧ (nI k1) ≤ (xi y 0 0).1 11)) h_
      · exact absurd ((by rw [show (xi y 0 0).1 7 = nI (cC S.1).length from m8]; exact ix_in hi0 : 0 ≤ (nI k0) ∧ (nI k0) < (xi y 0 0).1 7)) h_
