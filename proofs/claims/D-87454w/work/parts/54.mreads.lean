/-! the model reads a text -/
def MHc (t : Tx) (nf : Nat → Int64) (wf ff vf tf : Nat → Int32) : Prop := Lrep nf t.1 ∧ (∀ k, k < t.1.length → wf k = nI (t.2.1.getD k 0)) ∧ (∀ k, k < t.2.2.length → ff k = nI (t.2.2.getD k (0, 0, 0)).1 ∧ vf k = nI (t.2.2.getD k (0, 0, 0)).2.1 ∧ tf k = nI (t.2.2.getD k (0, 0, 0)).2.2)
theorem MHc.part {t : Tx} {nf : Nat → Int64} {wf ff vf tf : Nat → Int32} {nm : List Nat} {w : Nat} (h : MHc t nf wf ff vf tf) (hl : t.2.1.length = t.1.length) (hw : WfW nm) : MHc (t.1 ++ [nm], t.2.1 ++ [w], t.2.2) (va_up nf t.1.length (encL nm)) (va_up wf t.1.length (nI w)) ff vf tf := by
  refine ⟨fun k hk => ?_, fun k hk => ?_, h.2.2⟩
  · have hk : k < (t.1 ++ [nm]).length := hk
    rw [List.length_append] at hk
    have hk : k < t.1.length + 1 := hk
    show va_up nf t.1.length (encL nm) k = encL ((t.1 ++ [nm]).getD k []) ∧ WfW ((t.1 ++ [nm]).getD k [])
    by_cases he : k = t.1.length
    · rw [he, up_s, getD_e]; exact ⟨rfl, hw⟩
    · rw [up_n he, getD_l (by omega)]; exact h.1 k (by omega)
  · have hk : k < (t.1 ++ [nm]).length := hk
    rw [List.length_append] at hk
    have hk : k < t.1.length + 1 := hk
    show va_up wf t.1.length (nI w) k = nI ((t.2.1 ++ [w]).getD k 0)
    by_cases he : k = t.1.length
    · rw [he, up_s, ← hl, getD_e]
    · rw [up_n he, getD_l (by omega)]; exact h.2.1 k (by omega)
theorem MHc.link {t : Tx} {nf : Nat → Int64} {wf ff vf tf : Nat → Int32} {q : Nat × Nat × Nat} (h : MHc t nf wf ff vf tf) : MHc (t.1, t.2.1, t.2.2 ++ [q]) nf wf (va_up ff t.2.2.length (nI q.1)) (va_up vf t.2.2.length (nI q.2.1)) (va_up tf t.2.2.length (nI q.2.2)) := by
  refine ⟨h.1, h.2.1, fun k hk => ?_⟩
  have hk : k < (t.2.2 ++ [q]).length := hk
  rw [List.length_append] at hk
  have hk : k < t.2.2.length + 1 := hk
  show va_up ff t.2.2.length (nI q.1) k = nI ((t.2.2 ++ [q]).getD k (0, 0, 0)).1 ∧ va_up vf t.2.2.length (nI q.2.1) k = nI ((t.2.2 ++ [q]).getD k (0, 0, 0)).2.1 ∧ va_up tf t.2.2.length (nI q.2.2) k = nI ((t.2.2 ++ [q]).getD k (0, 0, 0)).2.2
  by_cases he : k = t.2.2.length
  · rw [he, up_s, up_s, up_s, getD_e]; exact ⟨rfl, rfl, rfl⟩
  · rw [up_n he, up_n he, up_n he, getD_l (by omega)]; exact h.2.2 k (by omega)
theorem pM.drop6 {G : pG} {A Y : va_W} {c1 c2 c3 c4 c5 c6 : Nat × va_E} {s : State} {H : Heap} {locs : List Loc} (h : pM G (A ++ (c1 :: c2 :: c3 :: c4 :: c5 :: c6 :: Y)) s H locs) : pM G (A ++ Y) s H locs :=
  h.sl (List.Sublist.append (List.Sublist.refl _) (List.Sublist.cons _ (List.Sublist.cons _ (List.Sublist.cons _ (List.Sublist.cons _ (List.Sublist.cons _ (List.Sublist.cons _ (List.Sublist.refl _))))))))

set_option maxRecDepth 100000 in
set_option maxHeartbeats 32000000 in
theorem mX4_reads (l : Launch) (G : pG) (ad : Nat → Nat) (x : XV) (T : va_W) (v0 : Nat → Int32) (lt0 : Int64) (n : Nat) (hn : n ≤ 300) (wds : List (List Nat)) (hw : Lrep (x.2.2.2.2.2 0) wds) (hnw : wds.length ≤ 60) (h1 : x.1 4 = nI wds.length) (hndw : wds.Nodup) (a an aw af av at_ : Nat) (nf0 : Nat → Int64) (wf0 ff0 vf0 tf0 : Nat → Int32) (t0 : Tx) (ht0 : MHc t0 nf0 wf0 ff0 vf0 tf0) (mp ml : Nat) (hok0 : TxOk wds.length mp ml t0) (hmp : mp ≤ 8) (hml : ml ≤ 10) : vx_Met l yX4_reads (ws_ yX4_reads cX4_reads 14 none) ({ frames := 3, cells := 0, slots := 0, locals := 64 } : Room) (va_Pc [.ref (ad 0), .ref a, .int (nI n), .int (nI mp), .int (nI ml)] (fun U => pW G (MWl G ad (mdx x v0 lt0) ++ ((a, .inr (22, [.int (nI t0.1.length), .int (nI t0.2.2.length), .ref an, .ref aw, .ref af, .ref av, .ref at_])) :: (an, .inl (G.2.2.1 3, 8, .inr (.inl nf0))) :: (aw, .inl (G.2.2.1 0, 8, .inl wf0)) :: (af, .inl (G.2.2.1 0, 10, .inl ff0)) :: (av, .inl (G.2.2.1 0, 10, .inl vf0)) :: (at_, .inl (G.2.2.1 0, 10, .inl tf0)) :: T)) U)) (va_Qv (fun (u : Tx × (Nat → Int64) × (Nat → Int32) × (Nat → Int32) × (Nat → Int32) × (Nat → Int32) × MS) => rdL (x.2.1 13) n wds mp ml (n + 1) 0 t0 = .inr u.1 ∧ TxOk wds.length mp ml u.1 ∧ MHc u.1 u.2.1 u.2.2.1 u.2.2.2.1 u.2.2.2.2.1 u.2.2.2.2.2.1) (fun (u : Tx × (Nat → Int64) × (Nat → Int32) × (Nat → Int32) × (Nat → Int32) × (Nat → Int32) × MS) t9 => pW G (MWl G ad (mdx (xi x 11 0) u.2.2.2.2.2.2.1 u.2.2.2.2.2.2.2) ++ ((a, .inr (22, [.int (nI u.1.1.length), .int (nI u.1.2.2.length), .ref an, .ref aw, .ref af, .ref av, .ref at_])) :: (an, .inl (G.2.2.1 3, 8, .inr (.inl u.2.1))) :: (aw, .inl (G.2.2.1 0, 8, .inl u.2.2.1)) :: (af, .inl (G.2.2.1 0, 10, .inl u.2.2.2.1)) :: (av, .inl (G.2.2.1 0, 10, .inl u.2.2.2.2.1)) :: (at_, .inl (G.2.2.1 0, 10, .inl u.2.2.2.2.2.1)) :: T)) t9) (pA G)) (pX G RX5 (fun (u : MX) => rdL (x.2.1 13) n wds mp ml (n + 1) 0 t0 = .inl (u.1, u.2.1)) (fun _ => ad 20) (fun u => MWl G ad (mdx (xi (xi (xi x 11 0) 21 (nI u.1)) 22 (nI u.2.1)) u.2.2.1 u.2.2.2) ++ T)) 0 0 (pA G) := by
  refine mx (by decide) (Nat.le_of_ble_eq_true rfl) ?_
  intro pp ee R s m below meth c ls Q hF hRt hLk htab hR hQx hQ hW hl
  have hx := hF.1
  have hb := hF.2.1
  have hts := hF.2.2.2.2
  have hR1 : R.frames = 3 := by rw [hR]
  have hR2 : R.cells = 0 := by rw [hR]
  have hR3 : R.slots = 0 := by rw [hR]
  have hR4 : R.locals = 64 := by rw [hR]
  have hl : lv_has ls 14 [(0, .ref (ad 0)), (1, .ref a), (2, .int (nI n)), (3, .int (nI mp)), (4, .int (nI ml))] := hl
  have hW : pM G (MWl G ad (mdx x v0 lt0) ++ ((a, .inr (22, [.int (nI t0.1.length), .int (nI t0.2.2.length), .ref an, .ref aw, .ref af, .ref av, .ref at_])) :: (an, .inl (G.2.2.1 3, 8, .inr (.inl nf0))) :: (aw, .inl (G.2.2.1 0, 8, .inl wf0)) :: (af, .inl (G.2.2.1 0, 10, .inl ff0)) :: (av, .inl (G.2.2.1 0, 10, .inl vf0)) :: (at_, .inl (G.2.2.1 0, 10, .inl tf0)) :: T)) s s.heap [] := hW
  refine lv_aload_n hx hb dX4_reads_0 rfl (lv_at hl 0 rfl) ?_
  refine lv_iload_n hx hb dX4_reads_1 rfl (lv_at hl 2 rfl) ?_
  refine cl_v (ru_V (As := [.int (nI n)]) (rest := []) hF (mX4_starts l G ad x ((a, .inr (22, [.int (nI t0.1.length), .int (nI t0.2.2.length), .ref an, .ref aw, .ref af, .ref av, .ref at_])) :: (an, .inl (G.2.2.1 3, 8, .inr (.inl nf0))) :: (aw, .inl (G.2.2.1 0, 8, .inl wf0)) :: (af, .inl (G.2.2.1 0, 10, .inl ff0)) :: (av, .inl (G.2.2.1 0, 10, .inl vf0)) :: (at_, .inl (G.2.2.1 0, 10, .inl tf0)) :: T) v0 lt0 n hn) (cwV 1 hts (lw_V q1263 q1265 qs31 q66 q1266) rfl rfl rfl (by decide +kernel) ⟨lb hR1 rfl, lb hR4 rfl⟩) hW (List.mem_of_getElem? (i := 0) rfl) (ci := 20) rfl rfl rfl hl.1 rfl (lv_room (Nat.le_of_ble_eq_true rfl)) dX4_reads_2 ⟨by omega, by omega⟩) hW (fun u_ H locs h_ hW => ?_)
  obtain ⟨v1, lt1⟩ := u_
  obtain ⟨b12, b13, b14, b15, b16, bw⟩ := h_
  have hW : pM G (MWl G ad (mdx (xi x 11 0) v1 lt1) ++ ((a, .inr (22, [.int (nI t0.1.length), .int (nI t0.2.2.length), .ref an, .ref aw, .ref af, .ref av, .ref at_])) :: (an, .inl (G.2.2.1 3, 8, .inr (.inl nf0))) :: (aw, .inl (G.2.2.1 0, 8, .inl wf0)) :: (af, .inl (G.2.2.1 0, 10, .inl ff0)) :: (av, .inl (G.2.2.1 0, 10, .inl vf0)) :: (at_, .inl (G.2.2.1 0, 10, .inl tf0)) :: T)) s _ _ := hW
  have b12 : v1 12 = nI n := b12
  have b13 : tkK (x.2.1 13) n 0 ≠ 1 → v1 13 = nI (tkE (x.2.1 13) n 0) := b13
  have b14 : v1 14 = nI (msort (tkK (x.2.1 13) n 0)) := b14
  have b15 : v1 15 = nI (skA (x.2.1 13) n 0) := b15
  have b16 : v1 16 = msign (tkK (x.2.1 13) n 0) := b16
  have bw : tkK (x.2.1 13) n 0 = 2 → lt1 = encL (tkW (x.2.1 13) n 0) := bw
  refine lv_iconst (v := 1) hx hb dX4_reads_5 (by decide) ?_
  refine lv_istore (lv' := [(5, .int 1), (0, .ref (ad 0)), (1, .ref a), (2, .int (nI n)), (3, .int (nI mp)), (4, .int (nI ml))]) hx hb dX4_reads_6 hl (by decide) rfl (fun ls hl => ?_)
  have loop_8 : ∀ (nn : Nat) (t : Tx) (nf : Nat → Int64) (wf : Nat → Int32) (ff : Nat → Int32) (vf : Nat → Int32) (tf : Nat → Int32) (e : Nat) (g : Nat) (v : Nat → Int32) (lt : Int64) (H : Heap) (locs : List Loc) (ls : Array Slot), n - e < nn → (e ≤ n) → (n - e < g) → (rdL (x.2.1 13) n wds mp ml (n + 1) 0 t0 = rdL (x.2.1 13) n wds mp ml g e t) → (MHc t nf wf ff vf tf) → (TxOk wds.length mp ml t) → (v 12 = nI n) → (tkK (x.2.1 13) n e ≠ 1 → v 13 = nI (tkE (x.2.1 13) n e)) → (v 14 = nI (msort (tkK (x.2.1 13) n e))) → (v 15 = nI (skA (x.2.1 13) n e)) → (v 16 = msign (tkK (x.2.1 13) n e)) → (tkK (x.2.1 13) n e = 2 → lt = encL (tkW (x.2.1 13) n e)) → pM G (MWl G ad (mdx (xi x 11 0) v lt) ++ ((a, .inr (22, [.int (nI t.1.length), .int (nI t.2.2.length), .ref an, .ref aw, .ref af, .ref av, .ref at_])) :: (an, .inl (G.2.2.1 3, 8, .inr (.inl nf))) :: (aw, .inl (G.2.2.1 0, 8, .inl wf)) :: (af, .inl (G.2.2.1 0, 10, .inl ff)) :: (av, .inl (G.2.2.1 0, 10, .inl vf)) :: (at_, .inl (G.2.2.1 0, 10, .inl tf)) :: T)) s H locs → lv_has ls 14 [(0, .ref (ad 0)), (1, .ref a), (2, .int (nI n)), (3, .int (nI mp)), (4, .int (nI ml)), (5, .int 1)] → W pp l ee R s m ([.ref (ad 0), .ref a, .int (nI n), .int (nI mp), .int (nI ml)] : List Value).toArray below meth c H locs (0 + 0) (0 + 0) Q (F0 m 8 ls []) := by
    intro nn
    induction nn with
    | zero => intro t nf wf ff vf tf e g v lt H locs ls hm; exact absurd hm (Nat.not_lt_zero _)
    | succ nn ih =>
      intro t nf wf ff vf tf e g v lt H locs ls hm he hg hres ht hok t12 t13 t14 t15 t16 tw hW hl
      obtain ⟨g, rfl⟩ : ∃ z, g = z + 1 := ⟨g - 1, by omega⟩
      have hla := hok.2.2.1
      have hlb := hok.2.2.2.1
      have hm8 := hm
      refine lv_iload hx hb dX4_reads_8 (lv_at hl 5 rfl) ?_
      refine lv_if_eq (tgt := 394) hx hb dX4_reads_10 (by decide) (fun c_10 => absurd c_10 (by decide)) (fun c_10 => ?_)
      refine lv_aload_n hx hb dX4_reads_13 rfl (lv_at hl 0 rfl) ?_
      refine gM0_sort hF hW q1130 (v := nI (msort (tkK (x.2.1 13) n e))) (t14) dX4_reads_14 ?_
      refine lv_iconst (v := 2) hx hb dX4_reads_17 (by decide) ?_
      refine lv_icmp_eq (tgt := 31) hx hb dX4_reads_18 (by decide) (fun c_18 => ?_) (fun c_18 => ?_)
      · have hk0 : tkK (x.2.1 13) n e = 2 := msort_2.mp (eq_eq (b := 2) c_18 (by have := msort_lt (tkK (x.2.1 13) n e); omega))
        have elt := tw hk0
        have hwf0 := tkW_wf hk0
        have n1 : tkK (x.2.1 13) n e ≠ 1 := by omega
        refine lv_aload_n hx hb dX4_reads_31 rfl (lv_at hl 0 rfl) ?_
        refine gM0_letters hF hW q1133 (v := encL (tkW (x.2.1 13) n e)) (elt) dX4_reads_32 ?_
        refine lv_lstore (lv' := [(6, .long (encL (tkW (x.2.1 13) n e))), (0, .ref (ad 0)), (1, .ref a), (2, .int (nI n)), (3, .int (nI mp)), (4, .int (nI ml)), (5, .int 1)]) hx hb dX4_reads_35 hl (by decide) rfl (fun ls hl => ?_)
        refine lv_aload_n hx hb dX4_reads_37 rfl (lv_at hl 1 rfl) ?_
        refine gM0_place hF hW q1131 (v := nI (skA (x.2.1 13) n e)) (t15) dX4_reads_38 ?_
        refine lv_istore (lv' := [(8, .int (nI (skA (x.2.1 13) n e))), (6, .long (encL (tkW (x.2.1 13) n e))), (0, .ref (ad 0)), (1, .ref a), (2, .int (nI n)), (3, .int (nI mp)), (4, .int (nI ml)), (5, .int 1)]) hx hb dX4_reads_41 hl (by decide) rfl (fun ls hl => ?_)
        refine lv_aload_n hx hb dX4_reads_43 rfl (lv_at hl 2 rfl) ?_
        refine cl_v (ru_V (As := []) (rest := []) hF (mX4_next l G ad (xi x 11 0) ((a, .inr (22, [.int (nI t.1.length), .int (nI t.2.2.length), .ref an, .ref aw, .ref af, .ref av, .ref at_])) :: (an, .inl (G.2.2.1 3, 8, .inr (.inl nf))) :: (aw, .inl (G.2.2.1 0, 8, .inl wf)) :: (af, .inl (G.2.2.1 0, 10, .inl ff)) :: (av, .inl (G.2.2.1 0, 10, .inl vf)) :: (at_, .inl (G.2.2.1 0, 10, .inl tf)) :: T) v lt (tkE (x.2.1 13) n e) n hn t12 (t13 n1) (tkE_le he)) (cwV 0 hts (lw_V q1267 q1269 qs32 q66 q1270) rfl rfl rfl (by decide +kernel) ⟨lb hR1 rfl, lb hR4 rfl⟩) hW (List.mem_of_getElem? (i := 0) rfl) (ci := 20) rfl rfl rfl hl.1 rfl (lv_room (Nat.le_of_ble_eq_true rfl)) dX4_reads_44 ⟨by omega, by omega⟩) hW (fun u_ H locs h_ hW => ?_)
        obtain ⟨v2, lt2⟩ := u_
        obtain ⟨x12, x13, x14, x15, x16, xw⟩ := h_
        have hW : pM G (MWl G ad (mdx (xi x 11 0) v2 lt2) ++ ((a, .inr (22, [.int (nI t.1.length), .int (nI t.2.2.length), .ref an, .ref aw, .ref af, .ref av, .ref at_])) :: (an, .inl (G.2.2.1 3, 8, .inr (.inl nf))) :: (aw, .inl (G.2.2.1 0, 8, .inl wf)) :: (af, .inl (G.2.2.1 0, 10, .inl ff)) :: (av, .inl (G.2.2.1 0, 10, .inl vf)) :: (at_, .inl (G.2.2.1 0, 10, .inl tf)) :: T)) s _ _ := hW
        have x12 : v2 12 = nI n := x12
        have x13 : tkK (x.2.1 13) n (tkE (x.2.1 13) n e) ≠ 1 → v2 13 = nI (tkE (x.2.1 13) n (tkE (x.2.1 13) n e)) := x13
        have x14 : v2 14 = nI (msort (tkK (x.2.1 13) n (tkE (x.2.1 13) n e))) := x14
        have x15 : v2 15 = nI (skA (x.2.1 13) n (tkE (x.2.1 13) n e)) := x15
        have x16 : v2 16 = msign (tkK (x.2.1 13) n (tkE (x.2.1 13) n e)) := x16
        have xw : tkK (x.2.1 13) n (tkE (x.2.1 13) n e) = 2 → lt2 = encL (tkW (x.2.1 13) n (tkE (x.2.1 13) n e)) := xw
        refine lv_aload_n hx hb dX4_reads_47 rfl (lv_at hl 2 rfl) ?_
        refine lv_bipush (v := 58) hx hb dX4_reads_48 (by decide) ?_
        refine cl_i (ru_V (As := [.int 58]) (rest := []) hF (mX4_is l G ad (mdx (xi x 11 0) v2 lt2) ((a, .inr (22, [.int (nI t.1.length), .int (nI t.2.2.length), .ref an, .ref aw, .ref af, .ref av, .ref at_])) :: (an, .inl (G.2.2.1 3, 8, .inr (.inl nf))) :: (aw, .inl (G.2.2.1 0, 8, .inl wf)) :: (af, .inl (G.2.2.1 0, 10, .inl ff)) :: (av, .inl (G.2.2.1 0, 10, .inl vf)) :: (at_, .inl (G.2.2.1 0, 10, .inl tf)) :: T) 58) (cwV 1 hts (lw_V q1322 q1324 qs41 q66 q1325) rfl rfl rfl (by decide +kernel) ⟨lb hR1 rfl, lb hR4 rfl⟩) hW (List.mem_of_getElem? (i := 0) rfl) (ci := 20) rfl rfl rfl hl.1 rfl (lv_room (Nat.le_of_ble_eq_true rfl)) dX4_reads_50 ⟨by omega, by omega⟩) hW (fun r_ u_ H locs h_ hW => ?_)
        have hW : pM G (MWl G ad (mdx (xi x 11 0) v2 lt2) ++ ((a, .inr (22, [.int (nI t.1.length), .int (nI t.2.2.length), .ref an, .ref aw, .ref af, .ref av, .ref at_])) :: (an, .inl (G.2.2.1 3, 8, .inr (.inl nf))) :: (aw, .inl (G.2.2.1 0, 8, .inl wf)) :: (af, .inl (G.2.2.1 0, 10, .inl ff)) :: (av, .inl (G.2.2.1 0, 10, .inl vf)) :: (at_, .inl (G.2.2.1 0, 10, .inl tf)) :: T)) s _ _ := hW
        rcases h_ with ⟨rfl, hi⟩ | ⟨rfl, hi⟩
        · have h58 : tkK (x.2.1 13) n (tkE (x.2.1 13) n e) = 58 := is58.mp ⟨x14.symm.trans hi.1, x16.symm.trans hi.2⟩
          refine lv_if_eq (tgt := 135) hx hb dX4_reads_53 (by decide) (fun c_53 => absurd c_53 (by decide)) (fun c_53 => ?_)
          refine lv_aload_n hx hb dX4_reads_56 rfl (lv_at hl 3 rfl) ?_
          refine lv_lload hx hb dX4_reads_57 (lv_at hl 1 rfl) ?_
          refine cl_i (ru_V (As := [.long (encL (tkW (x.2.1 13) n e))]) (rest := []) hF (mX6_find l G (MWl G ad (mdx (xi x 11 0) v2 lt2)) T a an aw af av at_ t.2.2.length nf wf ff vf tf t.1 (tkW (x.2.1 13) n e) ht.1 hwf0 (Nat.le_trans hok.2.2.1 hmp)) (cwV 1 hts (lw_V q1326 q1327 q1328 q68 q1329) rfl rfl rfl (by decide +kernel) ⟨lb hR1 rfl, lb hR4 rfl⟩) hW (ms_r (List.mem_of_getElem? (i := 0) rfl)) (ci := 22) rfl rfl rfl hl.1 rfl (lv_room (Nat.le_of_ble_eq_true rfl)) dX4_reads_59 ⟨by omega, by omega⟩) hW (fun r_ u_ H locs h_ hW => ?_)
          have hW : pM G (MWl G ad (mdx (xi x 11 0) v2 lt2) ++ ((a, .inr (22, [.int (nI t.1.length), .int (nI t.2.2.length), .ref an, .ref aw, .ref af, .ref av, .ref at_])) :: (an, .inl (G.2.2.1 3, 8, .inr (.inl nf))) :: (aw, .inl (G.2.2.1 0, 8, .inl wf)) :: (af, .inl (G.2.2.1 0, 10, .inl ff)) :: (av, .inl (G.2.2.1 0, 10, .inl vf)) :: (at_, .inl (G.2.2.1 0, 10, .inl tf)) :: T)) s _ _ := hW
          cases hp1 : pix t.1 (tkW (x.2.1 13) n e) with
          | none =>
            obtain rfl : r_ = -1 := pix_r1 hok.1 hp1 h_
            refine lv_iconst (v := (-1)) hx hb dX4_reads_62 (by decide) ?_
            refine lv_icmp_eq (tgt := 74) hx hb dX4_reads_63 (by decide) (fun c_63 => ?_) (fun c_63 => absurd c_63 (by decide))
            refine lv_aload_n hx hb dX4_reads_74 rfl (lv_at hl 2 rfl) ?_
            refine cl_v (ru_V (As := []) (rest := []) hF (mX4_next l G ad (xi x 11 0) ((a, .inr (22, [.int (nI t.1.length), .int (nI t.2.2.length), .ref an, .ref aw, .ref af, .ref av, .ref at_])) :: (an, .inl (G.2.2.1 3, 8, .inr (.inl nf))) :: (aw, .inl (G.2.2.1 0, 8, .inl wf)) :: (af, .inl (G.2.2.1 0, 10, .inl ff)) :: (av, .inl (G.2.2.1 0, 10, .inl vf)) :: (at_, .inl (G.2.2.1 0, 10, .inl tf)) :: T) v2 lt2 (tkE (x.2.1 13) n (tkE (x.2.1 13) n e)) n hn x12 (x13 (by rw [h58]; decide)) (tkE_le (tkE_le he))) (cwV 0 hts (lw_V q1267 q1269 qs32 q66 q1270) rfl rfl rfl (by decide +kernel) ⟨lb hR1 rfl, lb hR4 rfl⟩) hW (List.mem_of_getElem? (i := 0) rfl) (ci := 20) rfl rfl rfl hl.1 rfl (lv_room (Nat.le_of_ble_eq_true rfl)) dX4_reads_75 ⟨by omega, by omega⟩) hW (fun u_ H locs h_ hW => ?_)
            obtain ⟨v3, lt3⟩ := u_
            obtain ⟨w12, w13, w14, w15, w16, ww⟩ := h_
            have hW : pM G (MWl G ad (mdx (xi x 11 0) v3 lt3) ++ ((a, .inr (22, [.int (nI t.1.length), .int (nI t.2.2.length), .ref an, .ref aw, .ref af, .ref av, .ref at_])) :: (an, .inl (G.2.2.1 3, 8, .inr (.inl nf))) :: (aw, .inl (G.2.2.1 0, 8, .inl wf)) :: (af, .inl (G.2.2.1 0, 10, .inl ff)) :: (av, .inl (G.2.2.1 0, 10, .inl vf)) :: (at_, .inl (G.2.2.1 0, 10, .inl tf)) :: T)) s _ _ := hW
            have w12 : v3 12 = nI n := w12
            have w13 : tkK (x.2.1 13) n (tkE (x.2.1 13) n (tkE (x.2.1 13) n e)) ≠ 1 → v3 13 = nI (tkE (x.2.1 13) n (tkE (x.2.1 13) n (tkE (x.2.1 13) n e))) := w13
            have w14 : v3 14 = nI (msort (tkK (x.2.1 13) n (tkE (x.2.1 13) n (tkE (x.2.1 13) n e)))) := w14
            have w15 : v3 15 = nI (skA (x.2.1 13) n (tkE (x.2.1 13) n (tkE (x.2.1 13) n e))) := w15
            have w16 : v3 16 = msign (tkK (x.2.1 13) n (tkE (x.2.1 13) n (tkE (x.2.1 13) n e))) := w16
            have ww : tkK (x.2.1 13) n (tkE (x.2.1 13) n (tkE (x.2.1 13) n e)) = 2 → lt3 = encL (tkW (x.2.1 13) n (tkE (x.2.1 13) n (tkE (x.2.1 13) n e))) := ww
            refine lv_aload_n hx hb dX4_reads_78 rfl (lv_at hl 2 rfl) ?_
            by_cases hk2 : tkK (x.2.1 13) n (tkE (x.2.1 13) n (tkE (x.2.1 13) n e)) = 2
            · have hwf2 := tkW_wf hk2
              cases hp2 : pix wds (tkW (x.2.1 13) n (tkE (x.2.1 13) n (tkE (x.2.1 13) n e))) with
              | none =>
                refine cx_i (rx_V (As := []) (rest := []) hF (mX4_wordHere_no2 l G ad (xi x 11 0) ((a, .inr (22, [.int (nI t.1.length), .int (nI t.2.2.length), .ref an, .ref aw, .ref af, .ref av, .ref at_])) :: (an, .inl (G.2.2.1 3, 8, .inr (.inl nf))) :: (aw, .inl (G.2.2.1 0, 8, .inl wf)) :: (af, .inl (G.2.2.1 0, 10, .inl ff)) :: (av, .inl (G.2.2.1 0, 10, .inl vf)) :: (at_, .inl (G.2.2.1 0, 10, .inl tf)) :: T) v3 lt3 (skA (x.2.1 13) n (tkE (x.2.1 13) n (tkE (x.2.1 13) n e))) (tkW (x.2.1 13) n (tkE (x.2.1 13) n (tkE (x.2.1 13) n e))) (Eq.trans w14 (by rw [hk2]; rfl)) (ww hk2) hwf2 w15 wds hw hnw h1 hp2 hndw) (cwV 0 hts (lw_V q1330 q1332 qs42 q66 q1333) rfl rfl rfl (by decide +kernel) ⟨lb hR1 rfl, lb hR4 rfl⟩) hW (List.mem_of_getElem? (i := 0) rfl) (ci := 20) rfl rfl rfl hl.1 rfl (lv_room (Nat.le_of_ble_eq_true rfl)) dX4_reads_79 ⟨by omega, by omega⟩) hW (fun u_2 H locs h_3 hW => ?_) (fun r_1 u_2 H locs h_3 hW => ?_)
                · exact ox htab hLk hQx (by omega) (by omega) u_2 (by obtain ⟨z1, z2⟩ := h_3; rw [z1, z2]; exact hres.trans (rd_p hk0 h58 (by unfold prtF; rw [hp1]; dsimp only; rw [if_neg (fun z => z hk2), hp2]))) (pM.drop6 hW) (List.mem_of_getElem? (i := 20) rfl) (ci := 21) rfl
                · exact h_3.elim
              | some pw =>
                refine cl_i (ru_V (As := []) (rest := []) hF (mX4_wordHere_ok l G ad (xi x 11 0) ((a, .inr (22, [.int (nI t.1.length), .int (nI t.2.2.length), .ref an, .ref aw, .ref af, .ref av, .ref at_])) :: (an, .inl (G.2.2.1 3, 8, .inr (.inl nf))) :: (aw, .inl (G.2.2.1 0, 8, .inl wf)) :: (af, .inl (G.2.2.1 0, 10, .inl ff)) :: (av, .inl (G.2.2.1 0, 10, .inl vf)) :: (at_, .inl (G.2.2.1 0, 10, .inl tf)) :: T) v3 lt3 (tkE (x.2.1 13) n (tkE (x.2.1 13) n (tkE (x.2.1 13) n e))) n pw (tkW (x.2.1 13) n (tkE (x.2.1 13) n (tkE (x.2.1 13) n e))) (Eq.trans w14 (by rw [hk2]; rfl)) (ww hk2) hwf2 hn w12 (w13 (by rw [hk2]; decide)) (tkE_le (tkE_le (tkE_le he))) wds hw hnw h1 hp2 hndw) (cwV 0 hts (lw_V q1330 q1332 qs42 q66 q1333) rfl rfl rfl (by decide +kernel) ⟨lb hR1 rfl, lb hR4 rfl⟩) hW (List.mem_of_getElem? (i := 0) rfl) (ci := 20) rfl rfl rfl hl.1 rfl (lv_room (Nat.le_of_ble_eq_true rfl)) dX4_reads_79 ⟨by omega, by omega⟩) hW (fun r_ u_ H locs h_ hW => ?_)
                obtain ⟨v4, lt4⟩ := u_
                obtain ⟨rfl, q12, q13, q14, q15, q16, qw⟩ := h_
                have hpw := (pix_some hp2).1
                have hW : pM G (MWl G ad (mdx (xi x 11 0) v4 lt4) ++ ((a, .inr (22, [.int (nI t.1.length), .int (nI t.2.2.length), .ref an, .ref aw, .ref af, .ref av, .ref at_])) :: (an, .inl (G.2.2.1 3, 8, .inr (.inl nf))) :: (aw, .inl (G.2.2.1 0, 8, .inl wf)) :: (af, .inl (G.2.2.1 0, 10, .inl ff)) :: (av, .inl (G.2.2.1 0, 10, .inl vf)) :: (at_, .inl (G.2.2.1 0, 10, .inl tf)) :: T)) s _ _ := hW
                have q12 : v4 12 = nI n := q12
                have q13 : tkK (x.2.1 13) n (tkE (x.2.1 13) n (tkE (x.2.1 13) n (tkE (x.2.1 13) n e))) ≠ 1 → v4 13 = nI (tkE (x.2.1 13) n (tkE (x.2.1 13) n (tkE (x.2.1 13) n (tkE (x.2.1 13) n e)))) := q13
                have q14 : v4 14 = nI (msort (tkK (x.2.1 13) n (tkE (x.2.1 13) n (tkE (x.2.1 13) n (tkE (x.2.1 13) n e))))) := q14
                have q15 : v4 15 = nI (skA (x.2.1 13) n (tkE (x.2.1 13) n (tkE (x.2.1 13) n (tkE (x.2.1 13) n e)))) := q15
                have q16 : v4 16 = msign (tkK (x.2.1 13) n (tkE (x.2.1 13) n (tkE (x.2.1 13) n (tkE (x.2.1 13) n e)))) := q16
                have qw : tkK (x.2.1 13) n (tkE (x.2.1 13) n (tkE (x.2.1 13) n (tkE (x.2.1 13) n e))) = 2 → lt4 = encL (tkW (x.2.1 13) n (tkE (x.2.1 13) n (tkE (x.2.1 13) n (tkE (x.2.1 13) n e)))) := qw
                refine lv_istore (lv' := [(9, .int (nI pw)), (8, .int (nI (skA (x.2.1 13) n e))), (6, .long (encL (tkW (x.2.1 13) n e))), (0, .ref (ad 0)), (1, .ref a), (2, .int (nI n)), (3, .int (nI mp)), (4, .int (nI ml)), (5, .int 1)]) hx hb dX4_reads_82 hl (by decide) rfl (fun ls hl => ?_)
                refine lv_aload_n hx hb dX4_reads_84 rfl (lv_at hl 4 rfl) ?_
                refine gtN hF hW (ms_r (List.mem_of_getElem? (i := 0) rfl)) (ci := 22) rfl in_X6 0 (by decide) (List.mem_of_getElem? (i := 7) rfl) rfl (v := .int (nI t.1.length)) rfl dX4_reads_85 ?_
                refine lv_iload_n hx hb dX4_reads_88 rfl (lv_at hl 6 rfl) ?_
                refine lv_icmp_ne (tgt := 100) hx hb dX4_reads_89 (by decide) (fun c_89 => ?_) (fun c_89 => ?_)
                · have hmp2 : ¬ t.1.length = mp := fun z => c_89 (by rw [z])
                  refine lv_aload_n hx hb dX4_reads_100 rfl (lv_at hl 4 rfl) ?_
                  refine gtN hF hW (ms_r (List.mem_of_getElem? (i := 0) rfl)) (ci := 22) rfl in_X6 2 (by decide) (List.mem_of_getElem? (i := 9) rfl) rfl (v := .ref an) rfl dX4_reads_101 ?_
                  refine lv_aload_n hx hb dX4_reads_104 rfl (lv_at hl 4 rfl) ?_
                  refine gtN hF hW (ms_r (List.mem_of_getElem? (i := 0) rfl)) (ci := 22) rfl in_X6 0 (by decide) (List.mem_of_getElem? (i := 7) rfl) rfl (v := .int (nI t.1.length)) rfl dX4_reads_105 ?_
                  refine lv_lload hx hb dX4_reads_108 (lv_at hl 2 rfl) ?_
                  refine az_l (MWl G ad (mdx (xi x 11 0) v4 lt4)) [(a, .inr (22, [.int (nI t.1.length), .int (nI t.2.2.length), .ref an, .ref aw, .ref af, .ref av, .ref at_]))] ((aw, .inl (G.2.2.1 0, 8, .inl wf)) :: (af, .inl (G.2.2.1 0, 10, .inl ff)) :: (av, .inl (G.2.2.1 0, 10, .inl vf)) :: (at_, .inl (G.2.2.1 0, 10, .inl tf)) :: T) hF hW 3 rfl (j := t.1.length) (rfl) (by omega) (by decide) dX4_reads_110 (fun H locs hW => ?_)
                  have hW : pM G (MWl G ad (mdx (xi x 11 0) v4 lt4) ++ ((a, .inr (22, [.int (nI t.1.length), .int (nI t.2.2.length), .ref an, .ref aw, .ref af, .ref av, .ref at_])) :: (an, .inl (G.2.2.1 3, 8, .inr (.inl (va_up nf t.1.length (encL (tkW (x.2.1 13) n e)))))) :: (aw, .inl (G.2.2.1 0, 8, .inl wf)) :: (af, .inl (G.2.2.1 0, 10, .inl ff)) :: (av, .inl (G.2.2.1 0, 10, .inl vf)) :: (at_, .inl (G.2.2.1 0, 10, .inl tf)) :: T)) s _ _ := hW
                  refine lv_aload_n hx hb dX4_reads_111 rfl (lv_at hl 4 rfl) ?_
                  refine gtN hF hW (ms_r (List.mem_of_getElem? (i := 0) rfl)) (ci := 22) rfl in_X6 3 (by decide) (List.mem_of_getElem? (i := 10) rfl) rfl (v := .ref aw) rfl dX4_reads_112 ?_
                  refine lv_aload_n hx hb dX4_reads_115 rfl (lv_at hl 4 rfl) ?_
                  refine gtN hF hW (ms_r (List.mem_of_getElem? (i := 0) rfl)) (ci := 22) rfl in_X6 0 (by decide) (List.mem_of_getElem? (i := 7) rfl) rfl (v := .int (nI t.1.length)) rfl dX4_reads_116 ?_
                  refine lv_iload hx hb dX4_reads_119 (lv_at hl 0 rfl) ?_
                  refine az_i (MWl G ad (mdx (xi x 11 0) v4 lt4)) [(a, .inr (22, [.int (nI t.1.length), .int (nI t.2.2.length), .ref an, .ref aw, .ref af, .ref av, .ref at_])), (an, .inl (G.2.2.1 3, 8, .inr (.inl (va_up nf t.1.length (encL (tkW (x.2.1 13) n e))))))] ((af, .inl (G.2.2.1 0, 10, .inl ff)) :: (av, .inl (G.2.2.1 0, 10, .inl vf)) :: (at_, .inl (G.2.2.1 0, 10, .inl tf)) :: T) hF hW 0 rfl (j := t.1.length) (rfl) (by omega) (by decide) dX4_reads_121 (fun H locs hW => ?_)
                  have hW : pM G (MWl G ad (mdx (xi x 11 0) v4 lt4) ++ ((a, .inr (22, [.int (nI t.1.length), .int (nI t.2.2.length), .ref an, .ref aw, .ref af, .ref av, .ref at_])) :: (an, .inl (G.2.2.1 3, 8, .inr (.inl (va_up nf t.1.length (encL (tkW (x.2.1 13) n e)))))) :: (aw, .inl (G.2.2.1 0, 8, .inl (va_up wf t.1.length (nI pw)))) :: (af, .inl (G.2.2.1 0, 10, .inl ff)) :: (av, .inl (G.2.2.1 0, 10, .inl vf)) :: (at_, .inl (G.2.2.1 0, 10, .inl tf)) :: T)) s _ _ := hW
                  refine lv_aload_n hx hb dX4_reads_122 rfl (lv_at hl 4 rfl) ?_
                  refine lv_dup hx hb dX4_reads_123 rfl ?_
                  refine gtN hF hW (ms_r (List.mem_of_getElem? (i := 0) rfl)) (ci := 22) rfl in_X6 0 (by decide) (List.mem_of_getElem? (i := 7) rfl) rfl (v := .int (nI t.1.length)) rfl dX4_reads_124 ?_
                  refine lv_iconst (v := 1) hx hb dX4_reads_127 (by decide) ?_
                  refine lv_iadd hx hb dX4_reads_128 ?_
                  refine lv_eqi (show (nI t.1.length) + 1 = nI (t.1.length + 1) from nI_add t.1.length 1) ?_
                  refine pzN (MWl G ad (mdx (xi x 11 0) v4 lt4)) [] ((an, .inl (G.2.2.1 3, 8, .inr (.inl (va_up nf t.1.length (encL (tkW (x.2.1 13) n e)))))) :: (aw, .inl (G.2.2.1 0, 8, .inl (va_up wf t.1.length (nI pw)))) :: (af, .inl (G.2.2.1 0, 10, .inl ff)) :: (av, .inl (G.2.2.1 0, 10, .inl vf)) :: (at_, .inl (G.2.2.1 0, 10, .inl tf)) :: T) (Cn := RX6) (T := TX6) (N := 7) (ci := 22) hF hW rfl in_X6 tyX6 tyX6_ok nmX6 0 (by decide) (List.mem_of_getElem? (i := 7) rfl) rfl rfl rfl rfl (by decide : 0 < 7) dX4_reads_129 (fun H locs hW => ?_)
                  have hW : pM G (MWl G ad (mdx (xi x 11 0) v4 lt4) ++ ((a, .inr (22, [.int (nI (t.1.length + 1)), .int (nI t.2.2.length), .ref an, .ref aw, .ref af, .ref av, .ref at_])) :: (an, .inl (G.2.2.1 3, 8, .inr (.inl (va_up nf t.1.length (encL (tkW (x.2.1 13) n e)))))) :: (aw, .inl (G.2.2.1 0, 8, .inl (va_up wf t.1.length (nI pw)))) :: (af, .inl (G.2.2.1 0, 10, .inl ff)) :: (av, .inl (G.2.2.1 0, 10, .inl vf)) :: (at_, .inl (G.2.2.1 0, 10, .inl tf)) :: T)) s _ _ := hW
                  obtain ⟨t2, et2⟩ : ∃ z : Tx, z = (t.1 ++ [tkW (x.2.1 13) n e], t.2.1 ++ [pw], t.2.2) := ⟨_, rfl⟩
                  have el1 : t2.1.length = t.1.length + 1 := by rw [et2]; exact List.length_append
                  have el2 : t2.2.2.length = t.2.2.length := by rw [et2]
                  have ht9 : MHc t2 (va_up nf t.1.length (encL (tkW (x.2.1 13) n e))) (va_up wf t.1.length (nI pw)) ff vf tf := by rw [et2]; exact ht.part hok.2.1 hwf0
                  have hok9 : TxOk wds.length mp ml t2 := by rw [et2]; exact hok.part hp1 (pix_some hp2).1 hmp2
                  have hres9 : rdL (x.2.1 13) n wds mp ml (n + 1) 0 t0 = rdC (x.2.1 13) n wds mp ml g (tkE (x.2.1 13) n (tkE (x.2.1 13) n (tkE (x.2.1 13) n e))) t2 := by rw [et2]; exact hres.trans (rd_pc hk0 h58 (by unfold prtF; rw [hp1]; dsimp only; rw [if_neg (fun z => z hk2), hp2]; dsimp only; rw [if_neg hmp2]))
                  rw [← el1, ← el2] at hW
                  have hW : pM G (MWl G ad (mdx (xi x 11 0) v4 lt4) ++ ((a, .inr (22, [.int (nI t2.1.length), .int (nI t2.2.2.length), .ref an, .ref aw, .ref af, .ref av, .ref at_])) :: (an, .inl (G.2.2.1 3, 8, .inr (.inl (va_up nf t.1.length (encL (tkW (x.2.1 13) n e)))))) :: (aw, .inl (G.2.2.1 0, 8, .inl (va_up wf t.1.length (nI pw)))) :: (af, .inl (G.2.2.1 0, 10, .inl ff)) :: (av, .inl (G.2.2.1 0, 10, .inl vf)) :: (at_, .inl (G.2.2.1 0, 10, .inl tf)) :: T)) s _ _ := hW
                  refine lv_goto (tgt := 374) hx hb dX4_reads_132 (by decide) ?_
                  refine lv_aload_n hx hb dX4_reads_374 rfl (lv_at hl 3 rfl) ?_
                  refine lv_bipush (v := 59) hx hb dX4_reads_375 (by decide) ?_
                  refine cl_i (ru_V (As := [.int 59]) (rest := []) hF (mX4_is l G ad (mdx (xi x 11 0) v4 lt4) ((a, .inr (22, [.int (nI t2.1.length), .int (nI t2.2.2.length), .ref an, .ref aw, .ref af, .ref av, .ref at_])) :: (an, .inl (G.2.2.1 3, 8, .inr (.inl (va_up nf t.1.length (encL (tkW (x.2.1 13) n e)))))) :: (aw, .inl (G.2.2.1 0, 8, .inl (va_up wf t.1.length (nI pw)))) :: (af, .inl (G.2.2.1 0, 10, .inl ff)) :: (av, .inl (G.2.2.1 0, 10, .inl vf)) :: (at_, .inl (G.2.2.1 0, 10, .inl tf)) :: T) 59) (cwV 1 hts (lw_V q1322 q1324 qs41 q66 q1325) rfl rfl rfl (by decide +kernel) ⟨lb hR1 rfl, lb hR4 rfl⟩) hW (List.mem_of_getElem? (i := 0) rfl) (ci := 20) rfl rfl rfl hl.1 rfl (lv_room (Nat.le_of_ble_eq_true rfl)) dX4_reads_377 ⟨by omega, by omega⟩) hW (fun r_ u_ H locs h_ hW => ?_)
                  have hW : pM G (MWl G ad (mdx (xi x 11 0) v4 lt4) ++ ((a, .inr (22, [.int (nI t2.1.length), .int (nI t2.2.2.length), .ref an, .ref aw, .ref af, .ref av, .ref at_])) :: (an, .inl (G.2.2.1 3, 8, .inr (.inl (va_up nf t.1.length (encL (tkW (x.2.1 13) n e)))))) :: (aw, .inl (G.2.2.1 0, 8, .inl (va_up wf t.1.length (nI pw)))) :: (af, .inl (G.2.2.1 0, 10, .inl ff)) :: (av, .inl (G.2.2.1 0, 10, .inl vf)) :: (at_, .inl (G.2.2.1 0, 10, .inl tf)) :: T)) s _ _ := hW
                  rcases h_ with ⟨rfl, hi⟩ | ⟨rfl, hi⟩
                  · have h59 : tkK (x.2.1 13) n (tkE (x.2.1 13) n (tkE (x.2.1 13) n (tkE (x.2.1 13) n e))) = 59 := is59.mp ⟨q14.symm.trans hi.1, q16.symm.trans hi.2⟩
                    refine lv_istore (lv' := [(5, .int 1), (9, .int (nI pw)), (8, .int (nI (skA (x.2.1 13) n e))), (6, .long (encL (tkW (x.2.1 13) n e))), (0, .ref (ad 0)), (1, .ref a), (2, .int (nI n)), (3, .int (nI mp)), (4, .int (nI ml))]) hx hb dX4_reads_380 hl (by decide) rfl (fun ls hl => ?_)
                    refine lv_iload hx hb dX4_reads_382 (lv_at hl 0 rfl) ?_
                    refine lv_if_eq (tgt := 391) hx hb dX4_reads_384 (by decide) (fun c_384 => absurd c_384 (by decide)) (fun c_384 => ?_)
                    refine lv_aload_n hx hb dX4_reads_387 rfl (lv_at hl 4 rfl) ?_
                    refine cl_v (ru_V (As := []) (rest := []) hF (mX4_next l G ad (xi x 11 0) ((a, .inr (22, [.int (nI t2.1.length), .int (nI t2.2.2.length), .ref an, .ref aw, .ref af, .ref av, .ref at_])) :: (an, .inl (G.2.2.1 3, 8, .inr (.inl (va_up nf t.1.length (encL (tkW (x.2.1 13) n e)))))) :: (aw, .inl (G.2.2.1 0, 8, .inl (va_up wf t.1.length (nI pw)))) :: (af, .inl (G.2.2.1 0, 10, .inl ff)) :: (av, .inl (G.2.2.1 0, 10, .inl vf)) :: (at_, .inl (G.2.2.1 0, 10, .inl tf)) :: T) v4 lt4 (tkE (x.2.1 13) n (tkE (x.2.1 13) n (tkE (x.2.1 13) n (tkE (x.2.1 13) n e)))) n hn q12 (q13 (by rw [h59]; decide)) (tkE_le (tkE_le (tkE_le (tkE_le he))))) (cwV 0 hts (lw_V q1267 q1269 qs32 q66 q1270) rfl rfl rfl (by decide +kernel) ⟨lb hR1 rfl, lb hR4 rfl⟩) hW (List.mem_of_getElem? (i := 0) rfl) (ci := 20) rfl rfl rfl hl.1 rfl (lv_room (Nat.le_of_ble_eq_true rfl)) dX4_reads_388 ⟨by omega, by omega⟩) hW (fun u_ H locs h_ hW => ?_)
                    obtain ⟨v9, lt9⟩ := u_
                    obtain ⟨y12, y13, y14, y15, y16, yw⟩ := h_
                    have hW : pM G (MWl G ad (mdx (xi x 11 0) v9 lt9) ++ ((a, .inr (22, [.int (nI t2.1.length), .int (nI t2.2.2.length), .ref an, .ref aw, .ref af, .ref av, .ref at_])) :: (an, .inl (G.2.2.1 3, 8, .inr (.inl (va_up nf t.1.length (encL (tkW (x.2.1 13) n e)))))) :: (aw, .inl (G.2.2.1 0, 8, .inl (va_up wf t.1.length (nI pw)))) :: (af, .inl (G.2.2.1 0, 10, .inl ff)) :: (av, .inl (G.2.2.1 0, 10, .inl vf)) :: (at_, .inl (G.2.2.1 0, 10, .inl tf)) :: T)) s _ _ := hW
                    have y12 : v9 12 = nI n := y12
                    have y13 : tkK (x.2.1 13) n (tkE (x.2.1 13) n (tkE (x.2.1 13) n (tkE (x.2.1 13) n (tkE (x.2.1 13) n e)))) ≠ 1 → v9 13 = nI (tkE (x.2.1 13) n (tkE (x.2.1 13) n (tkE (x.2.1 13) n (tkE (x.2.1 13) n (tkE (x.2.1 13) n e))))) := y13
                    have y14 : v9 14 = nI (msort (tkK (x.2.1 13) n (tkE (x.2.1 13) n (tkE (x.2.1 13) n (tkE (x.2.1 13) n (tkE (x.2.1 13) n e)))))) := y14
                    have y15 : v9 15 = nI (skA (x.2.1 13) n (tkE (x.2.1 13) n (tkE (x.2.1 13) n (tkE (x.2.1 13) n (tkE (x.2.1 13) n e))))) := y15
                    have y16 : v9 16 = msign (tkK (x.2.1 13) n (tkE (x.2.1 13) n (tkE (x.2.1 13) n (tkE (x.2.1 13) n (tkE (x.2.1 13) n e))))) := y16
                    have yw : tkK (x.2.1 13) n (tkE (x.2.1 13) n (tkE (x.2.1 13) n (tkE (x.2.1 13) n (tkE (x.2.1 13) n e)))) = 2 → lt9 = encL (tkW (x.2.1 13) n (tkE (x.2.1 13) n (tkE (x.2.1 13) n (tkE (x.2.1 13) n (tkE (x.2.1 13) n e))))) := yw
                    have hle3 : (tkE (x.2.1 13) n (tkE (x.2.1 13) n (tkE (x.2.1 13) n e))) ≤ n := tkE_le (tkE_le (tkE_le he))
                    have hle4 : tkE (x.2.1 13) n (tkE (x.2.1 13) n (tkE (x.2.1 13) n (tkE (x.2.1 13) n e))) ≤ n := tkE_le hle3
                    have hgt9 := tkE_gt (f := (x.2.1 13)) (n := n) (e := (tkE (x.2.1 13) n (tkE (x.2.1 13) n (tkE (x.2.1 13) n e)))) (by rw [h59]; decide)
                    have hge9 := Nat.le_trans (tkE_ge (f := (x.2.1 13)) (n := n) (e := e)) (Nat.le_trans (tkE_ge (f := (x.2.1 13)) (n := n) (e := (tkE (x.2.1 13) n e))) (tkE_ge (f := (x.2.1 13)) (n := n) (e := (tkE (x.2.1 13) n (tkE (x.2.1 13) n e)))))
                    refine lv_goto (tgt := 8) hx hb dX4_reads_391 (by decide) ?_
                    exact W.widen (by omega) (by omega) (ih t2 (va_up nf t.1.length (encL (tkW (x.2.1 13) n e))) (va_up wf t.1.length (nI pw)) ff vf tf (tkE (x.2.1 13) n (tkE (x.2.1 13) n (tkE (x.2.1 13) n (tkE (x.2.1 13) n e)))) g v9 lt9 H locs ls (fuel_ok hm8 hge9 hgt9 hle4) (hle4) (fuel_ok hg hge9 hgt9 hle4) (hres9.trans (if_pos h59)) (ht9) (hok9) (y12) (y13) (y14) (y15) (y16) (yw) hW (lv_sub hl [4, 5, 6, 7, 8, 0] rfl))
                  · have h59 : ¬ tkK (x.2.1 13) n (tkE (x.2.1 13) n (tkE (x.2.1 13) n (tkE (x.2.1 13) n e))) = 59 := fun z => hi ⟨q14.trans (is59.mpr z).1, q16.trans (is59.mpr z).2⟩
                    refine lv_istore (lv' := [(5, .int 0), (9, .int (nI pw)), (8, .int (nI (skA (x.2.1 13) n e))), (6, .long (encL (tkW (x.2.1 13) n e))), (0, .ref (ad 0)), (1, .ref a), (2, .int (nI n)), (3, .int (nI mp)), (4, .int (nI ml))]) hx hb dX4_reads_380 hl (by decide) rfl (fun ls hl => ?_)
                    refine lv_iload hx hb dX4_reads_382 (lv_at hl 0 rfl) ?_
                    refine lv_if_eq (tgt := 391) hx hb dX4_reads_384 (by decide) (fun c_384 => ?_) (fun c_384 => absurd c_384 (by decide))
                    refine lv_goto (tgt := 8) hx hb dX4_reads_391 (by decide) ?_
                    refine lv_iload hx hb dX4_reads_8 (lv_at hl 0 rfl) ?_
                    refine lv_if_eq (tgt := 394) hx hb dX4_reads_10 (by decide) (fun c_10 => ?_) (fun c_10 => absurd c_10 (by decide))
                    refine lv_aload_n hx hb dX4_reads_394 rfl (lv_at hl 4 rfl) ?_
                    refine gM0_sort hF hW q1130 (v := nI (msort (tkK (x.2.1 13) n (tkE (x.2.1 13) n (tkE (x.2.1 13) n (tkE (x.2.1 13) n e)))))) (q14) dX4_reads_395 ?_
                    refine lv_iconst (v := 1) hx hb dX4_reads_398 (by decide) ?_
                    refine lv_icmp_eq (tgt := 412) hx hb dX4_reads_399 (by decide) (fun c_399 => ?_) (fun c_399 => ?_)
                    · have h0 : tkK (x.2.1 13) n (tkE (x.2.1 13) n (tkE (x.2.1 13) n (tkE (x.2.1 13) n e))) = 0 := msort_1.mp (eq_eq (b := 1) c_399 (by have := msort_lt (tkK (x.2.1 13) n (tkE (x.2.1 13) n (tkE (x.2.1 13) n (tkE (x.2.1 13) n e)))); omega))
                      exact re_v hF hRt hLk hQ (by omega) (by omega) dX4_reads_412 (t2, va_up nf t.1.length (encL (tkW (x.2.1 13) n e)), va_up wf t.1.length (nI pw), ff, vf, tf, v4, lt4) (⟨hres9.trans (by unfold rdC; rw [if_neg h59, if_pos h0]), hok9, ht9⟩) hW
                    · have h0 : ¬ tkK (x.2.1 13) n (tkE (x.2.1 13) n (tkE (x.2.1 13) n (tkE (x.2.1 13) n e))) = 0 := fun z => c_399 (by rw [z]; rfl)
                      refine lv_aload_n hx hb dX4_reads_402 rfl (lv_at hl 4 rfl) ?_
                      refine lv_iconst (v := 1) hx hb dX4_reads_403 (by decide) ?_
                      refine lv_aload_n hx hb dX4_reads_404 rfl (lv_at hl 4 rfl) ?_
                      refine gM0_place hF hW q1131 (v := nI (skA (x.2.1 13) n (tkE (x.2.1 13) n (tkE (x.2.1 13) n (tkE (x.2.1 13) n e))))) (q15) dX4_reads_405 ?_
                      refine cl_q (ru_V (As := [.int 1, .int (nI (skA (x.2.1 13) n (tkE (x.2.1 13) n (tkE (x.2.1 13) n (tkE (x.2.1 13) n e)))))]) (rest := []) hF (mX4_stop l G ad (mdx (xi x 11 0) v4 lt4) ((a, .inr (22, [.int (nI t2.1.length), .int (nI t2.2.2.length), .ref an, .ref aw, .ref af, .ref av, .ref at_])) :: (an, .inl (G.2.2.1 3, 8, .inr (.inl (va_up nf t.1.length (encL (tkW (x.2.1 13) n e)))))) :: (aw, .inl (G.2.2.1 0, 8, .inl (va_up wf t.1.length (nI pw)))) :: (af, .inl (G.2.2.1 0, 10, .inl ff)) :: (av, .inl (G.2.2.1 0, 10, .inl vf)) :: (at_, .inl (G.2.2.1 0, 10, .inl tf)) :: T) 1 (nI (skA (x.2.1 13) n (tkE (x.2.1 13) n (tkE (x.2.1 13) n (tkE (x.2.1 13) n e)))))) (cwV 2 hts (lw_V q1318 q1320 qs40 q66 q1321) rfl rfl rfl (by decide +kernel) ⟨lb hR1 rfl, lb hR4 rfl⟩) hW (List.mem_of_getElem? (i := 0) rfl) (ci := 20) rfl rfl rfl hl.1 rfl (lv_room (Nat.le_of_ble_eq_true rfl)) dX4_reads_408 ⟨by omega, by omega⟩) hW (fun r_ u_ H locs h_ hW => ?_)
                      obtain ⟨rfl, rfl⟩ : r_ = some (ad 20) ∧ u_ = xi (xi (mdx (xi x 11 0) v4 lt4) 21 1) 22 (nI (skA (x.2.1 13) n (tkE (x.2.1 13) n (tkE (x.2.1 13) n (tkE (x.2.1 13) n e))))) := h_
                      have hW : pM G (MWl G ad (mdx (xi (xi (xi x 11 0) 21 1) 22 (nI (skA (x.2.1 13) n (tkE (x.2.1 13) n (tkE (x.2.1 13) n (tkE (x.2.1 13) n e)))))) v4 lt4) ++ ((a, .inr (22, [.int (nI t2.1.length), .int (nI t2.2.2.length), .ref an, .ref aw, .ref af, .ref av, .ref at_])) :: (an, .inl (G.2.2.1 3, 8, .inr (.inl (va_up nf t.1.length (encL (tkW (x.2.1 13) n e)))))) :: (aw, .inl (G.2.2.1 0, 8, .inl (va_up wf t.1.length (nI pw)))) :: (af, .inl (G.2.2.1 0, 10, .inl ff)) :: (av, .inl (G.2.2.1 0, 10, .inl vf)) :: (at_, .inl (G.2.2.1 0, 10, .inl tf)) :: T)) s _ _ := hW
                      refine lv_eqv (y := .ref (ad 20)) rfl ?_
                      refine vx_athrow hx hb dX4_reads_411 ?_
                      exact ox htab hLk hQx (by omega) (by omega) (1, skA (x.2.1 13) n (tkE (x.2.1 13) n (tkE (x.2.1 13) n (tkE (x.2.1 13) n e))), v4, lt4) (hres9.trans (by unfold rdC; rw [if_neg h59, if_neg h0])) (pM.drop6 hW) (List.mem_of_getElem? (i := 20) rfl) (ci := 21) rfl
                · have hmp2 : t.1.length = mp := eq_eq c_89
                  refine lv_aload_n hx hb dX4_reads_92 rfl (lv_at hl 3 rfl) ?_
                  refine lv_iconst (v := 4) hx hb dX4_reads_93 (by decide) ?_
                  refine lv_iload hx hb dX4_reads_94 (lv_at hl 1 rfl) ?_
                  refine cl_q (ru_V (As := [.int 4, .int (nI (skA (x.2.1 13) n e))]) (rest := []) hF (mX4_stop l G ad (mdx (xi x 11 0) v4 lt4) ((a, .inr (22, [.int (nI t.1.length), .int (nI t.2.2.length), .ref an, .ref aw, .ref af, .ref av, .ref at_])) :: (an, .inl (G.2.2.1 3, 8, .inr (.inl nf))) :: (aw, .inl (G.2.2.1 0, 8, .inl wf)) :: (af, .inl (G.2.2.1 0, 10, .inl ff)) :: (av, .inl (G.2.2.1 0, 10, .inl vf)) :: (at_, .inl (G.2.2.1 0, 10, .inl tf)) :: T) 4 (nI (skA (x.2.1 13) n e))) (cwV 2 hts (lw_V q1318 q1320 qs40 q66 q1321) rfl rfl rfl (by decide +kernel) ⟨lb hR1 rfl, lb hR4 rfl⟩) hW (List.mem_of_getElem? (i := 0) rfl) (ci := 20) rfl rfl rfl hl.1 rfl (lv_room (Nat.le_of_ble_eq_true rfl)) dX4_reads_96 ⟨by omega, by omega⟩) hW (fun r_ u_ H locs h_ hW => ?_)
                  obtain ⟨rfl, rfl⟩ : r_ = some (ad 20) ∧ u_ = xi (xi (mdx (xi x 11 0) v4 lt4) 21 4) 22 (nI (skA (x.2.1 13) n e)) := h_
                  have hW : pM G (MWl G ad (mdx (xi (xi (xi x 11 0) 21 4) 22 (nI (skA (x.2.1 13) n e))) v4 lt4) ++ ((a, .inr (22, [.int (nI t.1.length), .int (nI t.2.2.length), .ref an, .ref aw, .ref af, .ref av, .ref at_])) :: (an, .inl (G.2.2.1 3, 8, .inr (.inl nf))) :: (aw, .inl (G.2.2.1 0, 8, .inl wf)) :: (af, .inl (G.2.2.1 0, 10, .inl ff)) :: (av, .inl (G.2.2.1 0, 10, .inl vf)) :: (at_, .inl (G.2.2.1 0, 10, .inl tf)) :: T)) s _ _ := hW
                  refine lv_eqv (y := .ref (ad 20)) rfl ?_
                  refine vx_athrow hx hb dX4_reads_99 ?_
                  exact ox htab hLk hQx (by omega) (by omega) (4, skA (x.2.1 13) n e, v4, lt4) (hres.trans (rd_p hk0 h58 (by unfold prtF; rw [hp1]; dsimp only; rw [if_neg (fun z => z hk2), hp2]; dsimp only; rw [if_pos hmp2]))) (pM.drop6 hW) (List.mem_of_getElem? (i := 20) rfl) (ci := 21) rfl
            · refine cx_i (rx_V (As := []) (rest := []) hF (mX4_wordHere_no1 l G ad (xi x 11 0) ((a, .inr (22, [.int (nI t.1.length), .int (nI t.2.2.length), .ref an, .ref aw, .ref af, .ref av, .ref at_])) :: (an, .inl (G.2.2.1 3, 8, .inr (.inl nf))) :: (aw, .inl (G.2.2.1 0, 8, .inl wf)) :: (af, .inl (G.2.2.1 0, 10, .inl ff)) :: (av, .inl (G.2.2.1 0, 10, .inl vf)) :: (at_, .inl (G.2.2.1 0, 10, .inl tf)) :: T) v3 lt3 (tkK (x.2.1 13) n (tkE (x.2.1 13) n (tkE (x.2.1 13) n e))) (skA (x.2.1 13) n (tkE (x.2.1 13) n (tkE (x.2.1 13) n e))) w14 hk2 w15) (cwV 0 hts (lw_V q1330 q1332 qs42 q66 q1333) rfl rfl rfl (by decide +kernel) ⟨lb hR1 rfl, lb hR4 rfl⟩) hW (List.mem_of_getElem? (i := 0) rfl) (ci := 20) rfl rfl rfl hl.1 rfl (lv_room (Nat.le_of_ble_eq_true rfl)) dX4_reads_79 ⟨by omega, by omega⟩) hW (fun u_5 H locs h_6 hW => ?_) (fun r_4 u_5 H locs h_6 hW => ?_)
              · exact ox htab hLk hQx (by omega) (by omega) u_5 (by obtain ⟨z1, z2⟩ := h_6; rw [z1, z2]; exact hres.trans (rd_p hk0 h58 (by unfold prtF; rw [hp1]; dsimp only; rw [if_pos hk2]))) (pM.drop6 hW) (List.mem_of_getElem? (i := 20) rfl) (ci := 21) rfl
              · exact h_6.elim
          | some pa =>
            obtain rfl : r_ = nI pa := pix_r2 hok.1 hp1 h_
            have hpa := (pix_some hp1).1
            refine lv_iconst (v := (-1)) hx hb dX4_reads_62 (by decide) ?_
            refine lv_icmp_eq (tgt := 74) hx hb dX4_reads_63 (by decide) (fun c_63 => absurd c_63 (nI_ne_m1 (by omega))) (fun c_63 => ?_)
            refine lv_aload_n hx hb dX4_reads_66 rfl (lv_at hl 2 rfl) ?_
            refine lv_iconst (v := 3) hx hb dX4_reads_67 (by decide) ?_
            refine lv_iload hx hb dX4_reads_68 (lv_at hl 0 rfl) ?_
            refine cl_q (ru_V (As := [.int 3, .int (nI (skA (x.2.1 13) n e))]) (rest := []) hF (mX4_stop l G ad (mdx (xi x 11 0) v2 lt2) ((a, .inr (22, [.int (nI t.1.length), .int (nI t.2.2.length), .ref an, .ref aw, .ref af, .ref av, .ref at_])) :: (an, .inl (G.2.2.1 3, 8, .inr (.inl nf))) :: (aw, .inl (G.2.2.1 0, 8, .inl wf)) :: (af, .inl (G.2.2.1 0, 10, .inl ff)) :: (av, .inl (G.2.2.1 0, 10, .inl vf)) :: (at_, .inl (G.2.2.1 0, 10, .inl tf)) :: T) 3 (nI (skA (x.2.1 13) n e))) (cwV 2 hts (lw_V q1318 q1320 qs40 q66 q1321) rfl rfl rfl (by decide +kernel) ⟨lb hR1 rfl, lb hR4 rfl⟩) hW (List.mem_of_getElem? (i := 0) rfl) (ci := 20) rfl rfl rfl hl.1 rfl (lv_room (Nat.le_of_ble_eq_true rfl)) dX4_reads_70 ⟨by omega, by omega⟩) hW (fun r_ u_ H locs h_ hW => ?_)
            obtain ⟨rfl, rfl⟩ : r_ = some (ad 20) ∧ u_ = xi (xi (mdx (xi x 11 0) v2 lt2) 21 3) 22 (nI (skA (x.2.1 13) n e)) := h_
            have hW : pM G (MWl G ad (mdx (xi (xi (xi x 11 0) 21 3) 22 (nI (skA (x.2.1 13) n e))) v2 lt2) ++ ((a, .inr (22, [.int (nI t.1.length), .int (nI t.2.2.length), .ref an, .ref aw, .ref af, .ref av, .ref at_])) :: (an, .inl (G.2.2.1 3, 8, .inr (.inl nf))) :: (aw, .inl (G.2.2.1 0, 8, .inl wf)) :: (af, .inl (G.2.2.1 0, 10, .inl ff)) :: (av, .inl (G.2.2.1 0, 10, .inl vf)) :: (at_, .inl (G.2.2.1 0, 10, .inl tf)) :: T)) s _ _ := hW
            refine lv_eqv (y := .ref (ad 20)) rfl ?_
            refine vx_athrow hx hb dX4_reads_73 ?_
            exact ox htab hLk hQx (by omega) (by omega) (3, skA (x.2.1 13) n e, v2, lt2) (hres.trans (rd_p hk0 h58 (by unfold prtF; rw [hp1]))) (pM.drop6 hW) (List.mem_of_getElem? (i := 20) rfl) (ci := 21) rfl
        · have h58 : ¬ tkK (x.2.1 13) n (tkE (x.2.1 13) n e) = 58 := fun z => hi ⟨x14.trans (is58.mpr z).1, x16.trans (is58.mpr z).2⟩
          refine lv_if_eq (tgt := 135) hx hb dX4_reads_53 (by decide) (fun c_53 => ?_) (fun c_53 => absurd c_53 (by decide))
          refine lv_aload_n hx hb dX4_reads_135 rfl (lv_at hl 2 rfl) ?_
          refine gM0_sort hF hW q1130 (v := nI (msort (tkK (x.2.1 13) n (tkE (x.2.1 13) n e)))) (x14) dX4_reads_136 ?_
          refine lv_iconst (v := 2) hx hb dX4_reads_139 (by decide) ?_
          refine lv_icmp_ne (tgt := 364) hx hb dX4_reads_140 (by decide) (fun c_140 => ?_) (fun c_140 => ?_)
          · have hk1 : ¬ tkK (x.2.1 13) n (tkE (x.2.1 13) n e) = 2 := fun z => c_140 (by rw [z]; rfl)
            refine lv_aload_n hx hb dX4_reads_364 rfl (lv_at hl 2 rfl) ?_
            refine lv_iconst (v := 1) hx hb dX4_reads_365 (by decide) ?_
            refine lv_aload_n hx hb dX4_reads_366 rfl (lv_at hl 2 rfl) ?_
            refine gM0_place hF hW q1131 (v := nI (skA (x.2.1 13) n (tkE (x.2.1 13) n e))) (x15) dX4_reads_367 ?_
            refine cl_q (ru_V (As := [.int 1, .int (nI (skA (x.2.1 13) n (tkE (x.2.1 13) n e)))]) (rest := []) hF (mX4_stop l G ad (mdx (xi x 11 0) v2 lt2) ((a, .inr (22, [.int (nI t.1.length), .int (nI t.2.2.length), .ref an, .ref aw, .ref af, .ref av, .ref at_])) :: (an, .inl (G.2.2.1 3, 8, .inr (.inl nf))) :: (aw, .inl (G.2.2.1 0, 8, .inl wf)) :: (af, .inl (G.2.2.1 0, 10, .inl ff)) :: (av, .inl (G.2.2.1 0, 10, .inl vf)) :: (at_, .inl (G.2.2.1 0, 10, .inl tf)) :: T) 1 (nI (skA (x.2.1 13) n (tkE (x.2.1 13) n e)))) (cwV 2 hts (lw_V q1318 q1320 qs40 q66 q1321) rfl rfl rfl (by decide +kernel) ⟨lb hR1 rfl, lb hR4 rfl⟩) hW (List.mem_of_getElem? (i := 0) rfl) (ci := 20) rfl rfl rfl hl.1 rfl (lv_room (Nat.le_of_ble_eq_true rfl)) dX4_reads_370 ⟨by omega, by omega⟩) hW (fun r_ u_ H locs h_ hW => ?_)
            obtain ⟨rfl, rfl⟩ : r_ = some (ad 20) ∧ u_ = xi (xi (mdx (xi x 11 0) v2 lt2) 21 1) 22 (nI (skA (x.2.1 13) n (tkE (x.2.1 13) n e))) := h_
            have hW : pM G (MWl G ad (mdx (xi (xi (xi x 11 0) 21 1) 22 (nI (skA (x.2.1 13) n (tkE (x.2.1 13) n e)))) v2 lt2) ++ ((a, .inr (22, [.int (nI t.1.length), .int (nI t.2.2.length), .ref an, .ref aw, .ref af, .ref av, .ref at_])) :: (an, .inl (G.2.2.1 3, 8, .inr (.inl nf))) :: (aw, .inl (G.2.2.1 0, 8, .inl wf)) :: (af, .inl (G.2.2.1 0, 10, .inl ff)) :: (av, .inl (G.2.2.1 0, 10, .inl vf)) :: (at_, .inl (G.2.2.1 0, 10, .inl tf)) :: T)) s _ _ := hW
            refine lv_eqv (y := .ref (ad 20)) rfl ?_
            refine vx_athrow hx hb dX4_reads_373 ?_
            exact ox htab hLk hQx (by omega) (by omega) (1, skA (x.2.1 13) n (tkE (x.2.1 13) n e), v2, lt2) (hres.trans (rd_l hk0 h58 (by unfold lnkF; rw [if_pos hk1]))) (pM.drop6 hW) (List.mem_of_getElem? (i := 20) rfl) (ci := 21) rfl
          · have hk1 : tkK (x.2.1 13) n (tkE (x.2.1 13) n e) = 2 := msort_2.mp (eq_eq (b := 2) c_140 (by have := msort_lt (tkK (x.2.1 13) n (tkE (x.2.1 13) n e)); omega))
            refine lv_aload_n hx hb dX4_reads_143 rfl (lv_at hl 3 rfl) ?_
            refine lv_lload hx hb dX4_reads_144 (lv_at hl 1 rfl) ?_
            refine cl_i (ru_V (As := [.long (encL (tkW (x.2.1 13) n e))]) (rest := []) hF (mX6_find l G (MWl G ad (mdx (xi x 11 0) v2 lt2)) T a an aw af av at_ t.2.2.length nf wf ff vf tf t.1 (tkW (x.2.1 13) n e) ht.1 hwf0 (Nat.le_trans hok.2.2.1 hmp)) (cwV 1 hts (lw_V q1326 q1327 q1328 q68 q1329) rfl rfl rfl (by decide +kernel) ⟨lb hR1 rfl, lb hR4 rfl⟩) hW (ms_r (List.mem_of_getElem? (i := 0) rfl)) (ci := 22) rfl rfl rfl hl.1 rfl (lv_room (Nat.le_of_ble_eq_true rfl)) dX4_reads_146 ⟨by omega, by omega⟩) hW (fun r_ u_ H locs h_ hW => ?_)
            have hW : pM G (MWl G ad (mdx (xi x 11 0) v2 lt2) ++ ((a, .inr (22, [.int (nI t.1.length), .int (nI t.2.2.length), .ref an, .ref aw, .ref af, .ref av, .ref at_])) :: (an, .inl (G.2.2.1 3, 8, .inr (.inl nf))) :: (aw, .inl (G.2.2.1 0, 8, .inl wf)) :: (af, .inl (G.2.2.1 0, 10, .inl ff)) :: (av, .inl (G.2.2.1 0, 10, .inl vf)) :: (at_, .inl (G.2.2.1 0, 10, .inl tf)) :: T)) s _ _ := hW
            cases hp1 : pix t.1 (tkW (x.2.1 13) n e) with
            | none =>
              obtain rfl : r_ = -1 := pix_r1 hok.1 hp1 h_
              refine lv_istore (lv' := [(9, .int (-1)), (8, .int (nI (skA (x.2.1 13) n e))), (6, .long (encL (tkW (x.2.1 13) n e))), (0, .ref (ad 0)), (1, .ref a), (2, .int (nI n)), (3, .int (nI mp)), (4, .int (nI ml)), (5, .int 1)]) hx hb dX4_reads_149 hl (by decide) rfl (fun ls hl => ?_)
              refine lv_iload hx hb dX4_reads_151 (lv_at hl 0 rfl) ?_
              refine lv_iconst (v := (-1)) hx hb dX4_reads_153 (by decide) ?_
              refine lv_icmp_ne (tgt := 165) hx hb dX4_reads_154 (by decide) (fun c_154 => absurd c_154 (by decide)) (fun c_154 => ?_)
              refine lv_aload_n hx hb dX4_reads_157 rfl (lv_at hl 3 rfl) ?_
              refine lv_iconst (v := 2) hx hb dX4_reads_158 (by decide) ?_
              refine lv_iload hx hb dX4_reads_159 (lv_at hl 1 rfl) ?_
              refine cl_q (ru_V (As := [.int 2, .int (nI (skA (x.2.1 13) n e))]) (rest := []) hF (mX4_stop l G ad (mdx (xi x 11 0) v2 lt2) ((a, .inr (22, [.int (nI t.1.length), .int (nI t.2.2.length), .ref an, .ref aw, .ref af, .ref av, .ref at_])) :: (an, .inl (G.2.2.1 3, 8, .inr (.inl nf))) :: (aw, .inl (G.2.2.1 0, 8, .inl wf)) :: (af, .inl (G.2.2.1 0, 10, .inl ff)) :: (av, .inl (G.2.2.1 0, 10, .inl vf)) :: (at_, .inl (G.2.2.1 0, 10, .inl tf)) :: T) 2 (nI (skA (x.2.1 13) n e))) (cwV 2 hts (lw_V q1318 q1320 qs40 q66 q1321) rfl rfl rfl (by decide +kernel) ⟨lb hR1 rfl, lb hR4 rfl⟩) hW (List.mem_of_getElem? (i := 0) rfl) (ci := 20) rfl rfl rfl hl.1 rfl (lv_room (Nat.le_of_ble_eq_true rfl)) dX4_reads_161 ⟨by omega, by omega⟩) hW (fun r_ u_ H locs h_ hW => ?_)
              obtain ⟨rfl, rfl⟩ : r_ = some (ad 20) ∧ u_ = xi (xi (mdx (xi x 11 0) v2 lt2) 21 2) 22 (nI (skA (x.2.1 13) n e)) := h_
              have hW : pM G (MWl G ad (mdx (xi (xi (xi x 11 0) 21 2) 22 (nI (skA (x.2.1 13) n e))) v2 lt2) ++ ((a, .inr (22, [.int (nI t.1.length), .int (nI t.2.2.length), .ref an, .ref aw, .ref af, .ref av, .ref at_])) :: (an, .inl (G.2.2.1 3, 8, .inr (.inl nf))) :: (aw, .inl (G.2.2.1 0, 8, .inl wf)) :: (af, .inl (G.2.2.1 0, 10, .inl ff)) :: (av, .inl (G.2.2.1 0, 10, .inl vf)) :: (at_, .inl (G.2.2.1 0, 10, .inl tf)) :: T)) s _ _ := hW
              refine lv_eqv (y := .ref (ad 20)) rfl ?_
              refine vx_athrow hx hb dX4_reads_164 ?_
              exact ox htab hLk hQx (by omega) (by omega) (2, skA (x.2.1 13) n e, v2, lt2) (hres.trans (rd_l hk0 h58 (by unfold lnkF; rw [if_neg (fun z => z hk1)]; rw [hp1]))) (pM.drop6 hW) (List.mem_of_getElem? (i := 20) rfl) (ci := 21) rfl
            | some pa =>
              obtain rfl : r_ = nI pa := pix_r2 hok.1 hp1 h_
              have hpa := (pix_some hp1).1
              refine lv_istore (lv' := [(9, .int (nI pa)), (8, .int (nI (skA (x.2.1 13) n e))), (6, .long (encL (tkW (x.2.1 13) n e))), (0, .ref (ad 0)), (1, .ref a), (2, .int (nI n)), (3, .int (nI mp)), (4, .int (nI ml)), (5, .int 1)]) hx hb dX4_reads_149 hl (by decide) rfl (fun ls hl => ?_)
              refine lv_iload hx hb dX4_reads_151 (lv_at hl 0 rfl) ?_
              refine lv_iconst (v := (-1)) hx hb dX4_reads_153 (by decide) ?_
              refine lv_icmp_ne (tgt := 165) hx hb dX4_reads_154 (by decide) (fun c_154 => ?_) (fun c_154 => absurd c_154 (nI_ne_m1 (by omega)))
              refine lv_aload_n hx hb dX4_reads_165 rfl (lv_at hl 3 rfl) ?_
              by_cases hk1b : tkK (x.2.1 13) n (tkE (x.2.1 13) n e) = 2
              · have hwf1 := tkW_wf hk1b
                cases hp2 : pix wds (tkW (x.2.1 13) n (tkE (x.2.1 13) n e)) with
                | none =>
                  refine cx_i (rx_V (As := []) (rest := []) hF (mX4_wordHere_no2 l G ad (xi x 11 0) ((a, .inr (22, [.int (nI t.1.length), .int (nI t.2.2.length), .ref an, .ref aw, .ref af, .ref av, .ref at_])) :: (an, .inl (G.2.2.1 3, 8, .inr (.inl nf))) :: (aw, .inl (G.2.2.1 0, 8, .inl wf)) :: (af, .inl (G.2.2.1 0, 10, .inl ff)) :: (av, .inl (G.2.2.1 0, 10, .inl vf)) :: (at_, .inl (G.2.2.1 0, 10, .inl tf)) :: T) v2 lt2 (skA (x.2.1 13) n (tkE (x.2.1 13) n e)) (tkW (x.2.1 13) n (tkE (x.2.1 13) n e)) (Eq.trans x14 (by rw [hk1b]; rfl)) (xw hk1b) hwf1 x15 wds hw hnw h1 hp2 hndw) (cwV 0 hts (lw_V q1330 q1332 qs42 q66 q1333) rfl rfl rfl (by decide +kernel) ⟨lb hR1 rfl, lb hR4 rfl⟩) hW (List.mem_of_getElem? (i := 0) rfl) (ci := 20) rfl rfl rfl hl.1 rfl (lv_room (Nat.le_of_ble_eq_true rfl)) dX4_reads_166 ⟨by omega, by omega⟩) hW (fun u_8 H locs h_9 hW => ?_) (fun r_7 u_8 H locs h_9 hW => ?_)
                  · exact ox htab hLk hQx (by omega) (by omega) u_8 (by obtain ⟨z1, z2⟩ := h_9; rw [z1, z2]; exact hres.trans (rd_l hk0 h58 (by unfold lnkF; rw [if_neg (fun z => z hk1)]; rw [hp1]; dsimp only; rw [hp2]))) (pM.drop6 hW) (List.mem_of_getElem? (i := 20) rfl) (ci := 21) rfl
                  · exact h_9.elim
                | some pw =>
                  refine cl_i (ru_V (As := []) (rest := []) hF (mX4_wordHere_ok l G ad (xi x 11 0) ((a, .inr (22, [.int (nI t.1.length), .int (nI t.2.2.length), .ref an, .ref aw, .ref af, .ref av, .ref at_])) :: (an, .inl (G.2.2.1 3, 8, .inr (.inl nf))) :: (aw, .inl (G.2.2.1 0, 8, .inl wf)) :: (af, .inl (G.2.2.1 0, 10, .inl ff)) :: (av, .inl (G.2.2.1 0, 10, .inl vf)) :: (at_, .inl (G.2.2.1 0, 10, .inl tf)) :: T) v2 lt2 (tkE (x.2.1 13) n (tkE (x.2.1 13) n e)) n pw (tkW (x.2.1 13) n (tkE (x.2.1 13) n e)) (Eq.trans x14 (by rw [hk1b]; rfl)) (xw hk1b) hwf1 hn x12 (x13 (by rw [hk1b]; decide)) (tkE_le (tkE_le he)) wds hw hnw h1 hp2 hndw) (cwV 0 hts (lw_V q1330 q1332 qs42 q66 q1333) rfl rfl rfl (by decide +kernel) ⟨lb hR1 rfl, lb hR4 rfl⟩) hW (List.mem_of_getElem? (i := 0) rfl) (ci := 20) rfl rfl rfl hl.1 rfl (lv_room (Nat.le_of_ble_eq_true rfl)) dX4_reads_166 ⟨by omega, by omega⟩) hW (fun r_ u_ H locs h_ hW => ?_)
                  obtain ⟨v3, lt3⟩ := u_
                  obtain ⟨rfl, w12, w13, w14, w15, w16, ww⟩ := h_
                  have hpw := (pix_some hp2).1
                  have hW : pM G (MWl G ad (mdx (xi x 11 0) v3 lt3) ++ ((a, .inr (22, [.int (nI t.1.length), .int (nI t.2.2.length), .ref an, .ref aw, .ref af, .ref av, .ref at_])) :: (an, .inl (G.2.2.1 3, 8, .inr (.inl nf))) :: (aw, .inl (G.2.2.1 0, 8, .inl wf)) :: (af, .inl (G.2.2.1 0, 10, .inl ff)) :: (av, .inl (G.2.2.1 0, 10, .inl vf)) :: (at_, .inl (G.2.2.1 0, 10, .inl tf)) :: T)) s _ _ := hW
                  have w12 : v3 12 = nI n := w12
                  have w13 : tkK (x.2.1 13) n (tkE (x.2.1 13) n (tkE (x.2.1 13) n e)) ≠ 1 → v3 13 = nI (tkE (x.2.1 13) n (tkE (x.2.1 13) n (tkE (x.2.1 13) n e))) := w13
                  have w14 : v3 14 = nI (msort (tkK (x.2.1 13) n (tkE (x.2.1 13) n (tkE (x.2.1 13) n e)))) := w14
                  have w15 : v3 15 = nI (skA (x.2.1 13) n (tkE (x.2.1 13) n (tkE (x.2.1 13) n e))) := w15
                  have w16 : v3 16 = msign (tkK (x.2.1 13) n (tkE (x.2.1 13) n (tkE (x.2.1 13) n e))) := w16
                  have ww : tkK (x.2.1 13) n (tkE (x.2.1 13) n (tkE (x.2.1 13) n e)) = 2 → lt3 = encL (tkW (x.2.1 13) n (tkE (x.2.1 13) n (tkE (x.2.1 13) n e))) := ww
                  refine lv_istore (lv' := [(10, .int (nI pw)), (9, .int (nI pa)), (8, .int (nI (skA (x.2.1 13) n e))), (6, .long (encL (tkW (x.2.1 13) n e))), (0, .ref (ad 0)), (1, .ref a), (2, .int (nI n)), (3, .int (nI mp)), (4, .int (nI ml)), (5, .int 1)]) hx hb dX4_reads_169 hl (by decide) rfl (fun ls hl => ?_)
                  refine lv_aload_n hx hb dX4_reads_171 rfl (lv_at hl 4 rfl) ?_
                  refine gM0_sort hF hW q1130 (v := nI (msort (tkK (x.2.1 13) n (tkE (x.2.1 13) n (tkE (x.2.1 13) n e))))) (w14) dX4_reads_172 ?_
                  refine lv_iconst (v := 2) hx hb dX4_reads_175 (by decide) ?_
                  refine lv_icmp_eq (tgt := 189) hx hb dX4_reads_176 (by decide) (fun c_176 => ?_) (fun c_176 => ?_)
                  · have hk2 : tkK (x.2.1 13) n (tkE (x.2.1 13) n (tkE (x.2.1 13) n e)) = 2 := msort_2.mp (eq_eq (b := 2) c_176 (by have := msort_lt (tkK (x.2.1 13) n (tkE (x.2.1 13) n (tkE (x.2.1 13) n e))); omega))
                    have elt2 := ww hk2
                    have hwf2 := tkW_wf hk2
                    refine lv_aload_n hx hb dX4_reads_189 rfl (lv_at hl 5 rfl) ?_
                    refine lv_aload_n hx hb dX4_reads_190 rfl (lv_at hl 4 rfl) ?_
                    refine gM0_letters hF hW q1133 (v := encL (tkW (x.2.1 13) n (tkE (x.2.1 13) n (tkE (x.2.1 13) n e)))) (elt2) dX4_reads_191 ?_
                    refine cl_i (ru_V (As := [.long (encL (tkW (x.2.1 13) n (tkE (x.2.1 13) n (tkE (x.2.1 13) n e))))]) (rest := []) hF (mX6_find l G (MWl G ad (mdx (xi x 11 0) v3 lt3)) T a an aw af av at_ t.2.2.length nf wf ff vf tf t.1 (tkW (x.2.1 13) n (tkE (x.2.1 13) n (tkE (x.2.1 13) n e))) ht.1 hwf2 (Nat.le_trans hok.2.2.1 hmp)) (cwV 1 hts (lw_V q1326 q1327 q1328 q68 q1329) rfl rfl rfl (by decide +kernel) ⟨lb hR1 rfl, lb hR4 rfl⟩) hW (ms_r (List.mem_of_getElem? (i := 0) rfl)) (ci := 22) rfl rfl rfl hl.1 rfl (lv_room (Nat.le_of_ble_eq_true rfl)) dX4_reads_194 ⟨by omega, by omega⟩) hW (fun r_ u_ H locs h_ hW => ?_)
                    have hW : pM G (MWl G ad (mdx (xi x 11 0) v3 lt3) ++ ((a, .inr (22, [.int (nI t.1.length), .int (nI t.2.2.length), .ref an, .ref aw, .ref af, .ref av, .ref at_])) :: (an, .inl (G.2.2.1 3, 8, .inr (.inl nf))) :: (aw, .inl (G.2.2.1 0, 8, .inl wf)) :: (af, .inl (G.2.2.1 0, 10, .inl ff)) :: (av, .inl (G.2.2.1 0, 10, .inl vf)) :: (at_, .inl (G.2.2.1 0, 10, .inl tf)) :: T)) s _ _ := hW
                    cases hp3 : pix t.1 (tkW (x.2.1 13) n (tkE (x.2.1 13) n (tkE (x.2.1 13) n e))) with
                    | none =>
                      obtain rfl : r_ = -1 := pix_r1 hok.1 hp3 h_
                      refine lv_istore (lv' := [(11, .int (-1)), (10, .int (nI pw)), (9, .int (nI pa)), (8, .int (nI (skA (x.2.1 13) n e))), (6, .long (encL (tkW (x.2.1 13) n e))), (0, .ref (ad 0)), (1, .ref a), (2, .int (nI n)), (3, .int (nI mp)), (4, .int (nI ml)), (5, .int 1)]) hx hb dX4_reads_197 hl (by decide) rfl (fun ls hl => ?_)
                      refine lv_iload hx hb dX4_reads_199 (lv_at hl 0 rfl) ?_
                      refine lv_iconst (v := (-1)) hx hb dX4_reads_201 (by decide) ?_
                      refine lv_icmp_ne (tgt := 215) hx hb dX4_reads_202 (by decide) (fun c_202 => absurd c_202 (by decide)) (fun c_202 => ?_)
                      refine lv_aload_n hx hb dX4_reads_205 rfl (lv_at hl 5 rfl) ?_
                      refine lv_iconst (v := 2) hx hb dX4_reads_206 (by decide) ?_
                      refine lv_aload_n hx hb dX4_reads_207 rfl (lv_at hl 5 rfl) ?_
                      refine gM0_place hF hW q1131 (v := nI (skA (x.2.1 13) n (tkE (x.2.1 13) n (tkE (x.2.1 13) n e)))) (w15) dX4_reads_208 ?_
                      refine cl_q (ru_V (As := [.int 2, .int (nI (skA (x.2.1 13) n (tkE (x.2.1 13) n (tkE (x.2.1 13) n e))))]) (rest := []) hF (mX4_stop l G ad (mdx (xi x 11 0) v3 lt3) ((a, .inr (22, [.int (nI t.1.length), .int (nI t.2.2.length), .ref an, .ref aw, .ref af, .ref av, .ref at_])) :: (an, .inl (G.2.2.1 3, 8, .inr (.inl nf))) :: (aw, .inl (G.2.2.1 0, 8, .inl wf)) :: (af, .inl (G.2.2.1 0, 10, .inl ff)) :: (av, .inl (G.2.2.1 0, 10, .inl vf)) :: (at_, .inl (G.2.2.1 0, 10, .inl tf)) :: T) 2 (nI (skA (x.2.1 13) n (tkE (x.2.1 13) n (tkE (x.2.1 13) n e))))) (cwV 2 hts (lw_V q1318 q1320 qs40 q66 q1321) rfl rfl rfl (by decide +kernel) ⟨lb hR1 rfl, lb hR4 rfl⟩) hW (List.mem_of_getElem? (i := 0) rfl) (ci := 20) rfl rfl rfl hl.1 rfl (lv_room (Nat.le_of_ble_eq_true rfl)) dX4_reads_211 ⟨by omega, by omega⟩) hW (fun r_ u_ H locs h_ hW => ?_)
                      obtain ⟨rfl, rfl⟩ : r_ = some (ad 20) ∧ u_ = xi (xi (mdx (xi x 11 0) v3 lt3) 21 2) 22 (nI (skA (x.2.1 13) n (tkE (x.2.1 13) n (tkE (x.2.1 13) n e)))) := h_
                      have hW : pM G (MWl G ad (mdx (xi (xi (xi x 11 0) 21 2) 22 (nI (skA (x.2.1 13) n (tkE (x.2.1 13) n (tkE (x.2.1 13) n e))))) v3 lt3) ++ ((a, .inr (22, [.int (nI t.1.length), .int (nI t.2.2.length), .ref an, .ref aw, .ref af, .ref av, .ref at_])) :: (an, .inl (G.2.2.1 3, 8, .inr (.inl nf))) :: (aw, .inl (G.2.2.1 0, 8, .inl wf)) :: (af, .inl (G.2.2.1 0, 10, .inl ff)) :: (av, .inl (G.2.2.1 0, 10, .inl vf)) :: (at_, .inl (G.2.2.1 0, 10, .inl tf)) :: T)) s _ _ := hW
                      refine lv_eqv (y := .ref (ad 20)) rfl ?_
                      refine vx_athrow hx hb dX4_reads_214 ?_
                      exact ox htab hLk hQx (by omega) (by omega) (2, skA (x.2.1 13) n (tkE (x.2.1 13) n (tkE (x.2.1 13) n e)), v3, lt3) (hres.trans (rd_l hk0 h58 (by unfold lnkF; rw [if_neg (fun z => z hk1)]; rw [hp1]; dsimp only; rw [hp2]; dsimp only; rw [if_neg (fun z => z hk2)]; rw [hp3]))) (pM.drop6 hW) (List.mem_of_getElem? (i := 20) rfl) (ci := 21) rfl
                    | some pb =>
                      obtain rfl : r_ = nI pb := pix_r2 hok.1 hp3 h_
                      have hpb := (pix_some hp3).1
                      refine lv_istore (lv' := [(11, .int (nI pb)), (10, .int (nI pw)), (9, .int (nI pa)), (8, .int (nI (skA (x.2.1 13) n e))), (6, .long (encL (tkW (x.2.1 13) n e))), (0, .ref (ad 0)), (1, .ref a), (2, .int (nI n)), (3, .int (nI mp)), (4, .int (nI ml)), (5, .int 1)]) hx hb dX4_reads_197 hl (by decide) rfl (fun ls hl => ?_)
                      refine lv_iload hx hb dX4_reads_199 (lv_at hl 0 rfl) ?_
                      refine lv_iconst (v := (-1)) hx hb dX4_reads_201 (by decide) ?_
                      refine lv_icmp_ne (tgt := 215) hx hb dX4_reads_202 (by decide) (fun c_202 => ?_) (fun c_202 => absurd c_202 (nI_ne_m1 (by omega)))
                      refine lv_aload_n hx hb dX4_reads_215 rfl (lv_at hl 5 rfl) ?_
                      refine cl_v (ru_V (As := []) (rest := []) hF (mX4_next l G ad (xi x 11 0) ((a, .inr (22, [.int (nI t.1.length), .int (nI t.2.2.length), .ref an, .ref aw, .ref af, .ref av, .ref at_])) :: (an, .inl (G.2.2.1 3, 8, .inr (.inl nf))) :: (aw, .inl (G.2.2.1 0, 8, .inl wf)) :: (af, .inl (G.2.2.1 0, 10, .inl ff)) :: (av, .inl (G.2.2.1 0, 10, .inl vf)) :: (at_, .inl (G.2.2.1 0, 10, .inl tf)) :: T) v3 lt3 (tkE (x.2.1 13) n (tkE (x.2.1 13) n (tkE (x.2.1 13) n e))) n hn w12 (w13 (by rw [hk2]; decide)) (tkE_le (tkE_le (tkE_le he)))) (cwV 0 hts (lw_V q1267 q1269 qs32 q66 q1270) rfl rfl rfl (by decide +kernel) ⟨lb hR1 rfl, lb hR4 rfl⟩) hW (List.mem_of_getElem? (i := 0) rfl) (ci := 20) rfl rfl rfl hl.1 rfl (lv_room (Nat.le_of_ble_eq_true rfl)) dX4_reads_216 ⟨by omega, by omega⟩) hW (fun u_ H locs h_ hW => ?_)
                      obtain ⟨v4, lt4⟩ := u_
                      obtain ⟨q12, q13, q14, q15, q16, qw⟩ := h_
                      have hW : pM G (MWl G ad (mdx (xi x 11 0) v4 lt4) ++ ((a, .inr (22, [.int (nI t.1.length), .int (nI t.2.2.length), .ref an, .ref aw, .ref af, .ref av, .ref at_])) :: (an, .inl (G.2.2.1 3, 8, .inr (.inl nf))) :: (aw, .inl (G.2.2.1 0, 8, .inl wf)) :: (af, .inl (G.2.2.1 0, 10, .inl ff)) :: (av, .inl (G.2.2.1 0, 10, .inl vf)) :: (at_, .inl (G.2.2.1 0, 10, .inl tf)) :: T)) s _ _ := hW
                      have q12 : v4 12 = nI n := q12
                      have q13 : tkK (x.2.1 13) n (tkE (x.2.1 13) n (tkE (x.2.1 13) n (tkE (x.2.1 13) n e))) ≠ 1 → v4 13 = nI (tkE (x.2.1 13) n (tkE (x.2.1 13) n (tkE (x.2.1 13) n (tkE (x.2.1 13) n e)))) := q13
                      have q14 : v4 14 = nI (msort (tkK (x.2.1 13) n (tkE (x.2.1 13) n (tkE (x.2.1 13) n (tkE (x.2.1 13) n e))))) := q14
                      have q15 : v4 15 = nI (skA (x.2.1 13) n (tkE (x.2.1 13) n (tkE (x.2.1 13) n (tkE (x.2.1 13) n e)))) := q15
                      have q16 : v4 16 = msign (tkK (x.2.1 13) n (tkE (x.2.1 13) n (tkE (x.2.1 13) n (tkE (x.2.1 13) n e)))) := q16
                      have qw : tkK (x.2.1 13) n (tkE (x.2.1 13) n (tkE (x.2.1 13) n (tkE (x.2.1 13) n e))) = 2 → lt4 = encL (tkW (x.2.1 13) n (tkE (x.2.1 13) n (tkE (x.2.1 13) n (tkE (x.2.1 13) n e)))) := qw
                      refine lv_iconst (v := 0) hx hb dX4_reads_219 (by decide) ?_
                      refine lv_istore (lv' := [(12, .int 0), (11, .int (nI pb)), (10, .int (nI pw)), (9, .int (nI pa)), (8, .int (nI (skA (x.2.1 13) n e))), (6, .long (encL (tkW (x.2.1 13) n e))), (0, .ref (ad 0)), (1, .ref a), (2, .int (nI n)), (3, .int (nI mp)), (4, .int (nI ml)), (5, .int 1)]) hx hb dX4_reads_220 hl (by decide) rfl (fun ls hl => ?_)
                      refine lv_iconst (v := 0) hx hb dX4_reads_222 (by decide) ?_
                      refine lv_istore (lv' := [(13, .int 0), (12, .int 0), (11, .int (nI pb)), (10, .int (nI pw)), (9, .int (nI pa)), (8, .int (nI (skA (x.2.1 13) n e))), (6, .long (encL (tkW (x.2.1 13) n e))), (0, .ref (ad 0)), (1, .ref a), (2, .int (nI n)), (3, .int (nI mp)), (4, .int (nI ml)), (5, .int 1)]) hx hb dX4_reads_223 hl (by decide) rfl (fun ls hl => ?_)
                      have loop_225 : ∀ (n2 : Nat) (k : Nat) (th : Int32) (H : Heap) (locs : List Loc) (ls : Array Slot), t.2.2.length - k < n2 → (k ≤ t.2.2.length) → ((th = 1 ∧ ∃ k9, k9 < k ∧ (nI (t.2.2.getD k9 (0, 0, 0)).1 = nI pa ∧ nI (t.2.2.getD k9 (0, 0, 0)).2.1 = nI pw ∧ nI (t.2.2.getD k9 (0, 0, 0)).2.2 = nI pb)) ∨ (th = 0 ∧ ∀ k9, k9 < k → ¬ (nI (t.2.2.getD k9 (0, 0, 0)).1 = nI pa ∧ nI (t.2.2.getD k9 (0, 0, 0)).2.1 = nI pw ∧ nI (t.2.2.getD k9 (0, 0, 0)).2.2 = nI pb))) → pM G (MWl G ad (mdx (xi x 11 0) v4 lt4) ++ ((a, .inr (22, [.int (nI t.1.length), .int (nI t.2.2.length), .ref an, .ref aw, .ref af, .ref av, .ref at_])) :: (an, .inl (G.2.2.1 3, 8, .inr (.inl nf))) :: (aw, .inl (G.2.2.1 0, 8, .inl wf)) :: (af, .inl (G.2.2.1 0, 10, .inl ff)) :: (av, .inl (G.2.2.1 0, 10, .inl vf)) :: (at_, .inl (G.2.2.1 0, 10, .inl tf)) :: T)) s H locs → lv_has ls 14 [(0, .ref (ad 0)), (1, .ref a), (2, .int (nI n)), (3, .int (nI mp)), (4, .int (nI ml)), (8, .int (nI (skA (x.2.1 13) n e))), (9, .int (nI pa)), (10, .int (nI pw)), (11, .int (nI pb)), (12, .int th), (13, .int (nI k))] → W pp l ee R s m ([.ref (ad 0), .ref a, .int (nI n), .int (nI mp), .int (nI ml)] : List Value).toArray below meth c H locs (((((((0 + 0) + 0) + 0) + 0) + 0) + 0) + 0) (((((((0 + 0) + 0) + 0) + 0) + 0) + 0) + 0) Q (F0 m 225 ls []) := by
                        intro n2
                        induction n2 with
                        | zero => intro k th H locs ls hm; exact absurd hm (Nat.not_lt_zero _)
                        | succ n2 ih2 =>
                          intro k th H locs ls hm hk hth hW hl
                          refine lv_iload hx hb dX4_reads_225 (lv_at hl 10 rfl) ?_
                          refine lv_aload_n hx hb dX4_reads_227 rfl (lv_at hl 1 rfl) ?_
                          refine gtN hF hW (ms_r (List.mem_of_getElem? (i := 0) rfl)) (ci := 22) rfl in_X6 1 (by decide) (List.mem_of_getElem? (i := 8) rfl) rfl (v := .int (nI t.2.2.length)) rfl dX4_reads_228 ?_
                          refine lv_icmp_ge (tgt := 288) hx hb dX4_reads_231 (by decide) (fun c_231 => ?_) (fun c_231 => ?_)
                          · have hkk : k = t.2.2.length := by have := le_le c_231; omega
                            rcases hth with ⟨rfl, hx9⟩ | ⟨rfl, hx9⟩
                            · refine lv_iload hx hb dX4_reads_288 (lv_at hl 9 rfl) ?_
                              have hin := has_iff (B := 100) (by omega) (fun q hq => by have := hok.2.2.2.2.2 q hq; omega) (show pa < 100 by omega) (show pw < 100 by omega) (show pb < 100 by omega)
                              have hmem : (pa, pw, pb) ∈ t.2.2 := hin.mp (by rw [← hkk]; exact hx9)
                              refine lv_if_eq (tgt := 301) hx hb dX4_reads_290 (by decide) (fun c_290 => absurd c_290 (by decide)) (fun c_290 => ?_)
                              refine lv_aload_n hx hb dX4_reads_293 rfl (lv_at hl 0 rfl) ?_
                              refine lv_iconst (v := 3) hx hb dX4_reads_294 (by decide) ?_
                              refine lv_iload hx hb dX4_reads_295 (lv_at hl 5 rfl) ?_
                              refine cl_q (ru_V (As := [.int 3, .int (nI (skA (x.2.1 13) n e))]) (rest := []) hF (mX4_stop l G ad (mdx (xi x 11 0) v4 lt4) ((a, .inr (22, [.int (nI t.1.length), .int (nI t.2.2.length), .ref an, .ref aw, .ref af, .ref av, .ref at_])) :: (an, .inl (G.2.2.1 3, 8, .inr (.inl nf))) :: (aw, .inl (G.2.2.1 0, 8, .inl wf)) :: (af, .inl (G.2.2.1 0, 10, .inl ff)) :: (av, .inl (G.2.2.1 0, 10, .inl vf)) :: (at_, .inl (G.2.2.1 0, 10, .inl tf)) :: T) 3 (nI (skA (x.2.1 13) n e))) (cwV 2 hts (lw_V q1318 q1320 qs40 q66 q1321) rfl rfl rfl (by decide +kernel) ⟨lb hR1 rfl, lb hR4 rfl⟩) hW (List.mem_of_getElem? (i := 0) rfl) (ci := 20) rfl rfl rfl hl.1 rfl (lv_room (Nat.le_of_ble_eq_true rfl)) dX4_reads_297 ⟨by omega, by omega⟩) hW (fun r_ u_ H locs h_ hW => ?_)
                              obtain ⟨rfl, rfl⟩ : r_ = some (ad 20) ∧ u_ = xi (xi (mdx (xi x 11 0) v4 lt4) 21 3) 22 (nI (skA (x.2.1 13) n e)) := h_
                              have hW : pM G (MWl G ad (mdx (xi (xi (xi x 11 0) 21 3) 22 (nI (skA (x.2.1 13) n e))) v4 lt4) ++ ((a, .inr (22, [.int (nI t.1.length), .int (nI t.2.2.length), .ref an, .ref aw, .ref af, .ref av, .ref at_])) :: (an, .inl (G.2.2.1 3, 8, .inr (.inl nf))) :: (aw, .inl (G.2.2.1 0, 8, .inl wf)) :: (af, .inl (G.2.2.1 0, 10, .inl ff)) :: (av, .inl (G.2.2.1 0, 10, .inl vf)) :: (at_, .inl (G.2.2.1 0, 10, .inl tf)) :: T)) s _ _ := hW
                              refine lv_eqv (y := .ref (ad 20)) rfl ?_
                              refine vx_athrow hx hb dX4_reads_300 ?_
                              exact ox htab hLk hQx (by omega) (by omega) (3, skA (x.2.1 13) n e, v4, lt4) (hres.trans (rd_l hk0 h58 (by unfold lnkF; rw [if_neg (fun z => z hk1)]; rw [hp1]; dsimp only; rw [hp2]; dsimp only; rw [if_neg (fun z => z hk2)]; rw [hp3]; dsimp only; rw [if_pos hmem]))) (pM.drop6 hW) (List.mem_of_getElem? (i := 20) rfl) (ci := 21) rfl
                            · refine lv_iload hx hb dX4_reads_288 (lv_at hl 9 rfl) ?_
                              have hin := has_iff (B := 100) (by omega) (fun q hq => by have := hok.2.2.2.2.2 q hq; omega) (show pa < 100 by omega) (show pw < 100 by omega) (show pb < 100 by omega)
                              have hmem : ¬ (pa, pw, pb) ∈ t.2.2 := fun z => by obtain ⟨k9, q1, q2⟩ := hin.mpr z; exact hx9 k9 (by omega) q2
                              refine lv_if_eq (tgt := 301) hx hb dX4_reads_290 (by decide) (fun c_290 => ?_) (fun c_290 => absurd c_290 (by decide))
                              refine lv_aload_n hx hb dX4_reads_301 rfl (lv_at hl 1 rfl) ?_
                              refine gtN hF hW (ms_r (List.mem_of_getElem? (i := 0) rfl)) (ci := 22) rfl in_X6 1 (by decide) (List.mem_of_getElem? (i := 8) rfl) rfl (v := .int (nI t.2.2.length)) rfl dX4_reads_302 ?_
                              refine lv_iload hx hb dX4_reads_305 (lv_at hl 4 rfl) ?_
                              refine lv_icmp_ne (tgt := 318) hx hb dX4_reads_307 (by decide) (fun c_307 => ?_) (fun c_307 => ?_)
                              · have hml2 : ¬ t.2.2.length = ml := fun z => c_307 (by rw [z])
                                refine lv_aload_n hx hb dX4_reads_318 rfl (lv_at hl 1 rfl) ?_
                                refine gtN hF hW (ms_r (List.mem_of_getElem? (i := 0) rfl)) (ci := 22) rfl in_X6 4 (by decide) (List.mem_of_getElem? (i := 11) rfl) rfl (v := .ref af) rfl dX4_reads_319 ?_
                                refine lv_aload_n hx hb dX4_reads_322 rfl (lv_at hl 1 rfl) ?_
                                refine gtN hF hW (ms_r (List.mem_of_getElem? (i := 0) rfl)) (ci := 22) rfl in_X6 1 (by decide) (List.mem_of_getElem? (i := 8) rfl) rfl (v := .int (nI t.2.2.length)) rfl dX4_reads_323 ?_
                                refine lv_iload hx hb dX4_reads_326 (lv_at hl 6 rfl) ?_
                                refine az_i (MWl G ad (mdx (xi x 11 0) v4 lt4)) [(a, .inr (22, [.int (nI t.1.length), .int (nI t.2.2.length), .ref an, .ref aw, .ref af, .ref av, .ref at_])), (an, .inl (G.2.2.1 3, 8, .inr (.inl nf))), (aw, .inl (G.2.2.1 0, 8, .inl wf))] ((av, .inl (G.2.2.1 0, 10, .inl vf)) :: (at_, .inl (G.2.2.1 0, 10, .inl tf)) :: T) hF hW 0 rfl (j := t.2.2.length) (rfl) (by omega) (by decide) dX4_reads_328 (fun H locs hW => ?_)
                                have hW : pM G (MWl G ad (mdx (xi x 11 0) v4 lt4) ++ ((a, .inr (22, [.int (nI t.1.length), .int (nI t.2.2.length), .ref an, .ref aw, .ref af, .ref av, .ref at_])) :: (an, .inl (G.2.2.1 3, 8, .inr (.inl nf))) :: (aw, .inl (G.2.2.1 0, 8, .inl wf)) :: (af, .inl (G.2.2.1 0, 10, .inl (va_up ff t.2.2.length (nI pa)))) :: (av, .inl (G.2.2.1 0, 10, .inl vf)) :: (at_, .inl (G.2.2.1 0, 10, .inl tf)) :: T)) s _ _ := hW
                                refine lv_aload_n hx hb dX4_reads_329 rfl (lv_at hl 1 rfl) ?_
                                refine gtN hF hW (ms_r (List.mem_of_getElem? (i := 0) rfl)) (ci := 22) rfl in_X6 5 (by decide) (List.mem_of_getElem? (i := 12) rfl) rfl (v := .ref av) rfl dX4_reads_330 ?_
                                refine lv_aload_n hx hb dX4_reads_333 rfl (lv_at hl 1 rfl) ?_
                                refine gtN hF hW (ms_r (List.mem_of_getElem? (i := 0) rfl)) (ci := 22) rfl in_X6 1 (by decide) (List.mem_of_getElem? (i := 8) rfl) rfl (v := .int (nI t.2.2.length)) rfl dX4_reads_334 ?_
                                refine lv_iload hx hb dX4_reads_337 (lv_at hl 7 rfl) ?_
                                refine az_i (MWl G ad (mdx (xi x 11 0) v4 lt4)) [(a, .inr (22, [.int (nI t.1.length), .int (nI t.2.2.length), .ref an, .ref aw, .ref af, .ref av, .ref at_])), (an, .inl (G.2.2.1 3, 8, .inr (.inl nf))), (aw, .inl (G.2.2.1 0, 8, .inl wf)), (af, .inl (G.2.2.1 0, 10, .inl (va_up ff t.2.2.length (nI pa))))] ((at_, .inl (G.2.2.1 0, 10, .inl tf)) :: T) hF hW 0 rfl (j := t.2.2.length) (rfl) (by omega) (by decide) dX4_reads_339 (fun H locs hW => ?_)
                                have hW : pM G (MWl G ad (mdx (xi x 11 0) v4 lt4) ++ ((a, .inr (22, [.int (nI t.1.length), .int (nI t.2.2.length), .ref an, .ref aw, .ref af, .ref av, .ref at_])) :: (an, .inl (G.2.2.1 3, 8, .inr (.inl nf))) :: (aw, .inl (G.2.2.1 0, 8, .inl wf)) :: (af, .inl (G.2.2.1 0, 10, .inl (va_up ff t.2.2.length (nI pa)))) :: (av, .inl (G.2.2.1 0, 10, .inl (va_up vf t.2.2.length (nI pw)))) :: (at_, .inl (G.2.2.1 0, 10, .inl tf)) :: T)) s _ _ := hW
                                refine lv_aload_n hx hb dX4_reads_340 rfl (lv_at hl 1 rfl) ?_
                                refine gtN hF hW (ms_r (List.mem_of_getElem? (i := 0) rfl)) (ci := 22) rfl in_X6 6 (by decide) (List.mem_of_getElem? (i := 13) rfl) rfl (v := .ref at_) rfl dX4_reads_341 ?_
                                refine lv_aload_n hx hb dX4_reads_344 rfl (lv_at hl 1 rfl) ?_
                                refine gtN hF hW (ms_r (List.mem_of_getElem? (i := 0) rfl)) (ci := 22) rfl in_X6 1 (by decide) (List.mem_of_getElem? (i := 8) rfl) rfl (v := .int (nI t.2.2.length)) rfl dX4_reads_345 ?_
                                refine lv_iload hx hb dX4_reads_348 (lv_at hl 8 rfl) ?_
                                refine az_i (MWl G ad (mdx (xi x 11 0) v4 lt4)) [(a, .inr (22, [.int (nI t.1.length), .int (nI t.2.2.length), .ref an, .ref aw, .ref af, .ref av, .ref at_])), (an, .inl (G.2.2.1 3, 8, .inr (.inl nf))), (aw, .inl (G.2.2.1 0, 8, .inl wf)), (af, .inl (G.2.2.1 0, 10, .inl (va_up ff t.2.2.length (nI pa)))), (av, .inl (G.2.2.1 0, 10, .inl (va_up vf t.2.2.length (nI pw))))] (T) hF hW 0 rfl (j := t.2.2.length) (rfl) (by omega) (by decide) dX4_reads_350 (fun H locs hW => ?_)
                                have hW : pM G (MWl G ad (mdx (xi x 11 0) v4 lt4) ++ ((a, .inr (22, [.int (nI t.1.length), .int (nI t.2.2.length), .ref an, .ref aw, .ref af, .ref av, .ref at_])) :: (an, .inl (G.2.2.1 3, 8, .inr (.inl nf))) :: (aw, .inl (G.2.2.1 0, 8, .inl wf)) :: (af, .inl (G.2.2.1 0, 10, .inl (va_up ff t.2.2.length (nI pa)))) :: (av, .inl (G.2.2.1 0, 10, .inl (va_up vf t.2.2.length (nI pw)))) :: (at_, .inl (G.2.2.1 0, 10, .inl (va_up tf t.2.2.length (nI pb)))) :: T)) s _ _ := hW
                                refine lv_aload_n hx hb dX4_reads_351 rfl (lv_at hl 1 rfl) ?_
                                refine lv_dup hx hb dX4_reads_352 rfl ?_
                                refine gtN hF hW (ms_r (List.mem_of_getElem? (i := 0) rfl)) (ci := 22) rfl in_X6 1 (by decide) (List.mem_of_getElem? (i := 8) rfl) rfl (v := .int (nI t.2.2.length)) rfl dX4_reads_353 ?_
                                refine lv_iconst (v := 1) hx hb dX4_reads_356 (by decide) ?_
                                refine lv_iadd hx hb dX4_reads_357 ?_
                                refine lv_eqi (show (nI t.2.2.length) + 1 = nI (t.2.2.length + 1) from nI_add t.2.2.length 1) ?_
                                refine pzN (MWl G ad (mdx (xi x 11 0) v4 lt4)) [] ((an, .inl (G.2.2.1 3, 8, .inr (.inl nf))) :: (aw, .inl (G.2.2.1 0, 8, .inl wf)) :: (af, .inl (G.2.2.1 0, 10, .inl (va_up ff t.2.2.length (nI pa)))) :: (av, .inl (G.2.2.1 0, 10, .inl (va_up vf t.2.2.length (nI pw)))) :: (at_, .inl (G.2.2.1 0, 10, .inl (va_up tf t.2.2.length (nI pb)))) :: T) (Cn := RX6) (T := TX6) (N := 7) (ci := 22) hF hW rfl in_X6 tyX6 tyX6_ok nmX6 1 (by decide) (List.mem_of_getElem? (i := 8) rfl) rfl rfl rfl rfl (by decide : 1 < 7) dX4_reads_358 (fun H locs hW => ?_)
                                have hW : pM G (MWl G ad (mdx (xi x 11 0) v4 lt4) ++ ((a, .inr (22, [.int (nI t.1.length), .int (nI (t.2.2.length + 1)), .ref an, .ref aw, .ref af, .ref av, .ref at_])) :: (an, .inl (G.2.2.1 3, 8, .inr (.inl nf))) :: (aw, .inl (G.2.2.1 0, 8, .inl wf)) :: (af, .inl (G.2.2.1 0, 10, .inl (va_up ff t.2.2.length (nI pa)))) :: (av, .inl (G.2.2.1 0, 10, .inl (va_up vf t.2.2.length (nI pw)))) :: (at_, .inl (G.2.2.1 0, 10, .inl (va_up tf t.2.2.length (nI pb)))) :: T)) s _ _ := hW
                                obtain ⟨t2, et2⟩ : ∃ z : Tx, z = (t.1, t.2.1, t.2.2 ++ [(pa, pw, pb)]) := ⟨_, rfl⟩
                                have el1 : t2.1.length = t.1.length := by rw [et2]
                                have el2 : t2.2.2.length = t.2.2.length + 1 := by rw [et2]; exact List.length_append
                                have ht9 : MHc t2 nf wf (va_up ff t.2.2.length (nI pa)) (va_up vf t.2.2.length (nI pw)) (va_up tf t.2.2.length (nI pb)) := by rw [et2]; exact ht.link
                                have hlk9 : lnkF (x.2.1 13) n wds t ml e = .inr (pa, pw, pb) := by unfold lnkF; rw [if_neg (fun z => z hk1)]; rw [hp1]; dsimp only; rw [hp2]; dsimp only; rw [if_neg (fun z => z hk2)]; rw [hp3]; dsimp only; rw [if_neg hmem, if_neg hml2]
                                have hok9 : TxOk wds.length mp ml t2 := by rw [et2]; exact hok.link ⟨hpa, hpw, hpb⟩ hml2
                                have hres9 : rdL (x.2.1 13) n wds mp ml (n + 1) 0 t0 = rdC (x.2.1 13) n wds mp ml g (tkE (x.2.1 13) n (tkE (x.2.1 13) n (tkE (x.2.1 13) n e))) t2 := by rw [et2]; exact hres.trans (rd_lc hk0 h58 hlk9)
                                rw [← el1, ← el2] at hW
                                have hW : pM G (MWl G ad (mdx (xi x 11 0) v4 lt4) ++ ((a, .inr (22, [.int (nI t2.1.length), .int (nI t2.2.2.length), .ref an, .ref aw, .ref af, .ref av, .ref at_])) :: (an, .inl (G.2.2.1 3, 8, .inr (.inl nf))) :: (aw, .inl (G.2.2.1 0, 8, .inl wf)) :: (af, .inl (G.2.2.1 0, 10, .inl (va_up ff t.2.2.length (nI pa)))) :: (av, .inl (G.2.2.1 0, 10, .inl (va_up vf t.2.2.length (nI pw)))) :: (at_, .inl (G.2.2.1 0, 10, .inl (va_up tf t.2.2.length (nI pb)))) :: T)) s _ _ := hW
                                refine lv_goto (tgt := 374) hx hb dX4_reads_361 (by decide) ?_
                                refine lv_aload_n hx hb dX4_reads_374 rfl (lv_at hl 0 rfl) ?_
                                refine lv_bipush (v := 59) hx hb dX4_reads_375 (by decide) ?_
                                refine cl_i (ru_V (As := [.int 59]) (rest := []) hF (mX4_is l G ad (mdx (xi x 11 0) v4 lt4) ((a, .inr (22, [.int (nI t2.1.length), .int (nI t2.2.2.length), .ref an, .ref aw, .ref af, .ref av, .ref at_])) :: (an, .inl (G.2.2.1 3, 8, .inr (.inl nf))) :: (aw, .inl (G.2.2.1 0, 8, .inl wf)) :: (af, .inl (G.2.2.1 0, 10, .inl (va_up ff t.2.2.length (nI pa)))) :: (av, .inl (G.2.2.1 0, 10, .inl (va_up vf t.2.2.length (nI pw)))) :: (at_, .inl (G.2.2.1 0, 10, .inl (va_up tf t.2.2.length (nI pb)))) :: T) 59) (cwV 1 hts (lw_V q1322 q1324 qs41 q66 q1325) rfl rfl rfl (by decide +kernel) ⟨lb hR1 rfl, lb hR4 rfl⟩) hW (List.mem_of_getElem? (i := 0) rfl) (ci := 20) rfl rfl rfl hl.1 rfl (lv_room (Nat.le_of_ble_eq_true rfl)) dX4_reads_377 ⟨by omega, by omega⟩) hW (fun r_ u_ H locs h_ hW => ?_)
                                have hW : pM G (MWl G ad (mdx (xi x 11 0) v4 lt4) ++ ((a, .inr (22, [.int (nI t2.1.length), .int (nI t2.2.2.length), .ref an, .ref aw, .ref af, .ref av, .ref at_])) :: (an, .inl (G.2.2.1 3, 8, .inr (.inl nf))) :: (aw, .inl (G.2.2.1 0, 8, .inl wf)) :: (af, .inl (G.2.2.1 0, 10, .inl (va_up ff t.2.2.length (nI pa)))) :: (av, .inl (G.2.2.1 0, 10, .inl (va_up vf t.2.2.length (nI pw)))) :: (at_, .inl (G.2.2.1 0, 10, .inl (va_up tf t.2.2.length (nI pb)))) :: T)) s _ _ := hW
                                rcases h_ with ⟨rfl, hi⟩ | ⟨rfl, hi⟩
                                · have h59 : tkK (x.2.1 13) n (tkE (x.2.1 13) n (tkE (x.2.1 13) n (tkE (x.2.1 13) n e))) = 59 := is59.mp ⟨q14.symm.trans hi.1, q16.symm.trans hi.2⟩
                                  refine lv_istore (lv' := [(5, .int 1), (0, .ref (ad 0)), (1, .ref a), (2, .int (nI n)), (3, .int (nI mp)), (4, .int (nI ml)), (8, .int (nI (skA (x.2.1 13) n e))), (9, .int (nI pa)), (10, .int (nI pw)), (11, .int (nI pb)), (12, .int 0), (13, .int (nI k))]) hx hb dX4_reads_380 hl (by decide) rfl (fun ls hl => ?_)
                                  refine lv_iload hx hb dX4_reads_382 (lv_at hl 0 rfl) ?_
                                  refine lv_if_eq (tgt := 391) hx hb dX4_reads_384 (by decide) (fun c_384 => absurd c_384 (by decide)) (fun c_384 => ?_)
                                  refine lv_aload_n hx hb dX4_reads_387 rfl (lv_at hl 1 rfl) ?_
                                  refine cl_v (ru_V (As := []) (rest := []) hF (mX4_next l G ad (xi x 11 0) ((a, .inr (22, [.int (nI t2.1.length), .int (nI t2.2.2.length), .ref an, .ref aw, .ref af, .ref av, .ref at_])) :: (an, .inl (G.2.2.1 3, 8, .inr (.inl nf))) :: (aw, .inl (G.2.2.1 0, 8, .inl wf)) :: (af, .inl (G.2.2.1 0, 10, .inl (va_up ff t.2.2.length (nI pa)))) :: (av, .inl (G.2.2.1 0, 10, .inl (va_up vf t.2.2.length (nI pw)))) :: (at_, .inl (G.2.2.1 0, 10, .inl (va_up tf t.2.2.length (nI pb)))) :: T) v4 lt4 (tkE (x.2.1 13) n (tkE (x.2.1 13) n (tkE (x.2.1 13) n (tkE (x.2.1 13) n e)))) n hn q12 (q13 (by rw [h59]; decide)) (tkE_le (tkE_le (tkE_le (tkE_le he))))) (cwV 0 hts (lw_V q1267 q1269 qs32 q66 q1270) rfl rfl rfl (by decide +kernel) ⟨lb hR1 rfl, lb hR4 rfl⟩) hW (List.mem_of_getElem? (i := 0) rfl) (ci := 20) rfl rfl rfl hl.1 rfl (lv_room (Nat.le_of_ble_eq_true rfl)) dX4_reads_388 ⟨by omega, by omega⟩) hW (fun u_ H locs h_ hW => ?_)
                                  obtain ⟨v9, lt9⟩ := u_
                                  obtain ⟨y12, y13, y14, y15, y16, yw⟩ := h_
                                  have hW : pM G (MWl G ad (mdx (xi x 11 0) v9 lt9) ++ ((a, .inr (22, [.int (nI t2.1.length), .int (nI t2.2.2.length), .ref an, .ref aw, .ref af, .ref av, .ref at_])) :: (an, .inl (G.2.2.1 3, 8, .inr (.inl nf))) :: (aw, .inl (G.2.2.1 0, 8, .inl wf)) :: (af, .inl (G.2.2.1 0, 10, .inl (va_up ff t.2.2.length (nI pa)))) :: (av, .inl (G.2.2.1 0, 10, .inl (va_up vf t.2.2.length (nI pw)))) :: (at_, .inl (G.2.2.1 0, 10, .inl (va_up tf t.2.2.length (nI pb)))) :: T)) s _ _ := hW
                                  have y12 : v9 12 = nI n := y12
                                  have y13 : tkK (x.2.1 13) n (tkE (x.2.1 13) n (tkE (x.2.1 13) n (tkE (x.2.1 13) n (tkE (x.2.1 13) n e)))) ≠ 1 → v9 13 = nI (tkE (x.2.1 13) n (tkE (x.2.1 13) n (tkE (x.2.1 13) n (tkE (x.2.1 13) n (tkE (x.2.1 13) n e))))) := y13
                                  have y14 : v9 14 = nI (msort (tkK (x.2.1 13) n (tkE (x.2.1 13) n (tkE (x.2.1 13) n (tkE (x.2.1 13) n (tkE (x.2.1 13) n e)))))) := y14
                                  have y15 : v9 15 = nI (skA (x.2.1 13) n (tkE (x.2.1 13) n (tkE (x.2.1 13) n (tkE (x.2.1 13) n (tkE (x.2.1 13) n e))))) := y15
                                  have y16 : v9 16 = msign (tkK (x.2.1 13) n (tkE (x.2.1 13) n (tkE (x.2.1 13) n (tkE (x.2.1 13) n (tkE (x.2.1 13) n e))))) := y16
                                  have yw : tkK (x.2.1 13) n (tkE (x.2.1 13) n (tkE (x.2.1 13) n (tkE (x.2.1 13) n (tkE (x.2.1 13) n e)))) = 2 → lt9 = encL (tkW (x.2.1 13) n (tkE (x.2.1 13) n (tkE (x.2.1 13) n (tkE (x.2.1 13) n (tkE (x.2.1 13) n e))))) := yw
                                  have hle3 : (tkE (x.2.1 13) n (tkE (x.2.1 13) n (tkE (x.2.1 13) n e))) ≤ n := tkE_le (tkE_le (tkE_le he))
                                  have hle4 : tkE (x.2.1 13) n (tkE (x.2.1 13) n (tkE (x.2.1 13) n (tkE (x.2.1 13) n e))) ≤ n := tkE_le hle3
                                  have hgt9 := tkE_gt (f := (x.2.1 13)) (n := n) (e := (tkE (x.2.1 13) n (tkE (x.2.1 13) n (tkE (x.2.1 13) n e)))) (by rw [h59]; decide)
                                  have hge9 := Nat.le_trans (tkE_ge (f := (x.2.1 13)) (n := n) (e := e)) (Nat.le_trans (tkE_ge (f := (x.2.1 13)) (n := n) (e := (tkE (x.2.1 13) n e))) (tkE_ge (f := (x.2.1 13)) (n := n) (e := (tkE (x.2.1 13) n (tkE (x.2.1 13) n e)))))
                                  refine lv_goto (tgt := 8) hx hb dX4_reads_391 (by decide) ?_
                                  exact W.widen (by omega) (by omega) (ih t2 nf wf (va_up ff t.2.2.length (nI pa)) (va_up vf t.2.2.length (nI pw)) (va_up tf t.2.2.length (nI pb)) (tkE (x.2.1 13) n (tkE (x.2.1 13) n (tkE (x.2.1 13) n (tkE (x.2.1 13) n e)))) g v9 lt9 H locs ls (fuel_ok hm8 hge9 hgt9 hle4) (hle4) (fuel_ok hg hge9 hgt9 hle4) (hres9.trans (if_pos h59)) (ht9) (hok9) (y12) (y13) (y14) (y15) (y16) (yw) hW (lv_sub hl [1, 2, 3, 4, 5, 0] rfl))
                                · have h59 : ¬ tkK (x.2.1 13) n (tkE (x.2.1 13) n (tkE (x.2.1 13) n (tkE (x.2.1 13) n e))) = 59 := fun z => hi ⟨q14.trans (is59.mpr z).1, q16.trans (is59.mpr z).2⟩
                                  refine lv_istore (lv' := [(5, .int 0), (0, .ref (ad 0)), (1, .ref a), (2, .int (nI n)), (3, .int (nI mp)), (4, .int (nI ml)), (8, .int (nI (skA (x.2.1 13) n e))), (9, .int (nI pa)), (10, .int (nI pw)), (11, .int (nI pb)), (12, .int 0), (13, .int (nI k))]) hx hb dX4_reads_380 hl (by decide) rfl (fun ls hl => ?_)
                                  refine lv_iload hx hb dX4_reads_382 (lv_at hl 0 rfl) ?_
                                  refine lv_if_eq (tgt := 391) hx hb dX4_reads_384 (by decide) (fun c_384 => ?_) (fun c_384 => absurd c_384 (by decide))
                                  refine lv_goto (tgt := 8) hx hb dX4_reads_391 (by decide) ?_
                                  refine lv_iload hx hb dX4_reads_8 (lv_at hl 0 rfl) ?_
                                  refine lv_if_eq (tgt := 394) hx hb dX4_reads_10 (by decide) (fun c_10 => ?_) (fun c_10 => absurd c_10 (by decide))
                                  refine lv_aload_n hx hb dX4_reads_394 rfl (lv_at hl 1 rfl) ?_
                                  refine gM0_sort hF hW q1130 (v := nI (msort (tkK (x.2.1 13) n (tkE (x.2.1 13) n (tkE (x.2.1 13) n (tkE (x.2.1 13) n e)))))) (q14) dX4_reads_395 ?_
                                  refine lv_iconst (v := 1) hx hb dX4_reads_398 (by decide) ?_
                                  refine lv_icmp_eq (tgt := 412) hx hb dX4_reads_399 (by decide) (fun c_399 => ?_) (fun c_399 => ?_)
                                  · have h0 : tkK (x.2.1 13) n (tkE (x.2.1 13) n (tkE (x.2.1 13) n (tkE (x.2.1 13) n e))) = 0 := msort_1.mp (eq_eq (b := 1) c_399 (by have := msort_lt (tkK (x.2.1 13) n (tkE (x.2.1 13) n (tkE (x.2.1 13) n (tkE (x.2.1 13) n e)))); omega))
                                    exact re_v hF hRt hLk hQ (by omega) (by omega) dX4_reads_412 (t2, nf, wf, va_up ff t.2.2.length (nI pa), va_up vf t.2.2.length (nI pw), va_up tf t.2.2.length (nI pb), v4, lt4) (⟨hres9.trans (by unfold rdC; rw [if_neg h59, if_pos h0]), hok9, ht9⟩) hW
                                  · have h0 : ¬ tkK (x.2.1 13) n (tkE (x.2.1 13) n (tkE (x.2.1 13) n (tkE (x.2.1 13) n e))) = 0 := fun z => c_399 (by rw [z]; rfl)
                                    refine lv_aload_n hx hb dX4_reads_402 rfl (lv_at hl 1 rfl) ?_
                                    refine lv_iconst (v := 1) hx hb dX4_reads_403 (by decide) ?_
                                    refine lv_aload_n hx hb dX4_reads_404 rfl (lv_at hl 1 rfl) ?_
                                    refine gM0_place hF hW q1131 (v := nI (skA (x.2.1 13) n (tkE (x.2.1 13) n (tkE (x.2.1 13) n (tkE (x.2.1 13) n e))))) (q15) dX4_reads_405 ?_
                                    refine cl_q (ru_V (As := [.int 1, .int (nI (skA (x.2.1 13) n (tkE (x.2.1 13) n (tkE (x.2.1 13) n (tkE (x.2.1 13) n e)))))]) (rest := []) hF (mX4_stop l G ad (mdx (xi x 11 0) v4 lt4) ((a, .inr (22, [.int (nI t2.1.length), .int (nI t2.2.2.length), .ref an, .ref aw, .ref af, .ref av, .ref at_])) :: (an, .inl (G.2.2.1 3, 8, .inr (.inl nf))) :: (aw, .inl (G.2.2.1 0, 8, .inl wf)) :: (af, .inl (G.2.2.1 0, 10, .inl (va_up ff t.2.2.length (nI pa)))) :: (av, .inl (G.2.2.1 0, 10, .inl (va_up vf t.2.2.length (nI pw)))) :: (at_, .inl (G.2.2.1 0, 10, .inl (va_up tf t.2.2.length (nI pb)))) :: T) 1 (nI (skA (x.2.1 13) n (tkE (x.2.1 13) n (tkE (x.2.1 13) n (tkE (x.2.1 13) n e)))))) (cwV 2 hts (lw_V q1318 q1320 qs40 q66 q1321) rfl rfl rfl (by decide +kernel) ⟨lb hR1 rfl, lb hR4 rfl⟩) hW (List.mem_of_getElem? (i := 0) rfl) (ci := 20) rfl rfl rfl hl.1 rfl (lv_room (Nat.le_of_ble_eq_true rfl)) dX4_reads_408 ⟨by omega, by omega⟩) hW (fun r_ u_ H locs h_ hW => ?_)
                                    obtain ⟨rfl, rfl⟩ : r_ = some (ad 20) ∧ u_ = xi (xi (mdx (xi x 11 0) v4 lt4) 21 1) 22 (nI (skA (x.2.1 13) n (tkE (x.2.1 13) n (tkE (x.2.1 13) n (tkE (x.2.1 13) n e))))) := h_
                                    have hW : pM G (MWl G ad (mdx (xi (xi (xi x 11 0) 21 1) 22 (nI (skA (x.2.1 13) n (tkE (x.2.1 13) n (tkE (x.2.1 13) n (tkE (x.2.1 13) n e)))))) v4 lt4) ++ ((a, .inr (22, [.int (nI t2.1.length), .int (nI t2.2.2.length), .ref an, .ref aw, .ref af, .ref av, .ref at_])) :: (an, .inl (G.2.2.1 3, 8, .inr (.inl nf))) :: (aw, .inl (G.2.2.1 0, 8, .inl wf)) :: (af, .inl (G.2.2.1 0, 10, .inl (va_up ff t.2.2.length (nI pa)))) :: (av, .inl (G.2.2.1 0, 10, .inl (va_up vf t.2.2.length (nI pw)))) :: (at_, .inl (G.2.2.1 0, 10, .inl (va_up tf t.2.2.length (nI pb)))) :: T)) s _ _ := hW
                                    refine lv_eqv (y := .ref (ad 20)) rfl ?_
                                    refine vx_athrow hx hb dX4_reads_411 ?_
                                    exact ox htab hLk hQx (by omega) (by omega) (1, skA (x.2.1 13) n (tkE (x.2.1 13) n (tkE (x.2.1 13) n (tkE (x.2.1 13) n e))), v4, lt4) (hres9.trans (by unfold rdC; rw [if_neg h59, if_neg h0])) (pM.drop6 hW) (List.mem_of_getElem? (i := 20) rfl) (ci := 21) rfl
                              · have hml2 : t.2.2.length = ml := eq_eq c_307
                                refine lv_aload_n hx hb dX4_reads_310 rfl (lv_at hl 0 rfl) ?_
                                refine lv_iconst (v := 4) hx hb dX4_reads_311 (by decide) ?_
                                refine lv_iload hx hb dX4_reads_312 (lv_at hl 5 rfl) ?_
                                refine cl_q (ru_V (As := [.int 4, .int (nI (skA (x.2.1 13) n e))]) (rest := []) hF (mX4_stop l G ad (mdx (xi x 11 0) v4 lt4) ((a, .inr (22, [.int (nI t.1.length), .int (nI t.2.2.length), .ref an, .ref aw, .ref af, .ref av, .ref at_])) :: (an, .inl (G.2.2.1 3, 8, .inr (.inl nf))) :: (aw, .inl (G.2.2.1 0, 8, .inl wf)) :: (af, .inl (G.2.2.1 0, 10, .inl ff)) :: (av, .inl (G.2.2.1 0, 10, .inl vf)) :: (at_, .inl (G.2.2.1 0, 10, .inl tf)) :: T) 4 (nI (skA (x.2.1 13) n e))) (cwV 2 hts (lw_V q1318 q1320 qs40 q66 q1321) rfl rfl rfl (by decide +kernel) ⟨lb hR1 rfl, lb hR4 rfl⟩) hW (List.mem_of_getElem? (i := 0) rfl) (ci := 20) rfl rfl rfl hl.1 rfl (lv_room (Nat.le_of_ble_eq_true rfl)) dX4_reads_314 ⟨by omega, by omega⟩) hW (fun r_ u_ H locs h_ hW => ?_)
                                obtain ⟨rfl, rfl⟩ : r_ = some (ad 20) ∧ u_ = xi (xi (mdx (xi x 11 0) v4 lt4) 21 4) 22 (nI (skA (x.2.1 13) n e)) := h_
                                have hW : pM G (MWl G ad (mdx (xi (xi (xi x 11 0) 21 4) 22 (nI (skA (x.2.1 13) n e))) v4 lt4) ++ ((a, .inr (22, [.int (nI t.1.length), .int (nI t.2.2.length), .ref an, .ref aw, .ref af, .ref av, .ref at_])) :: (an, .inl (G.2.2.1 3, 8, .inr (.inl nf))) :: (aw, .inl (G.2.2.1 0, 8, .inl wf)) :: (af, .inl (G.2.2.1 0, 10, .inl ff)) :: (av, .inl (G.2.2.1 0, 10, .inl vf)) :: (at_, .inl (G.2.2.1 0, 10, .inl tf)) :: T)) s _ _ := hW
                                refine lv_eqv (y := .ref (ad 20)) rfl ?_
                                refine vx_athrow hx hb dX4_reads_317 ?_
                                exact ox htab hLk hQx (by omega) (by omega) (4, skA (x.2.1 13) n e, v4, lt4) (hres.trans (rd_l hk0 h58 (by unfold lnkF; rw [if_neg (fun z => z hk1)]; rw [hp1]; dsimp only; rw [hp2]; dsimp only; rw [if_neg (fun z => z hk2)]; rw [hp3]; dsimp only; rw [if_neg hmem, if_pos hml2]))) (pM.drop6 hW) (List.mem_of_getElem? (i := 20) rfl) (ci := 21) rfl
                          · have hkl : k < t.2.2.length := nle_lt c_231
                            have hel := ht.2.2 k hkl
                            rcases hth with ⟨rfl, hx9⟩ | ⟨rfl, hx9⟩
                            · refine lv_iload hx hb dX4_reads_234 (lv_at hl 9 rfl) ?_
                              refine lv_if_ne (tgt := 275) hx hb dX4_reads_236 (by decide) (fun c_236 => ?_) (fun c_236 => absurd c_236 (by decide))
                              refine lv_iconst (v := 1) hx hb dX4_reads_275 (by decide) ?_
                              refine lv_goto (tgt := 280) hx hb dX4_reads_276 (by decide) ?_
                              refine lv_istore (lv' := [(12, .int 1), (0, .ref (ad 0)), (1, .ref a), (2, .int (nI n)), (3, .int (nI mp)), (4, .int (nI ml)), (8, .int (nI (skA (x.2.1 13) n e))), (9, .int (nI pa)), (10, .int (nI pw)), (11, .int (nI pb)), (13, .int (nI k))]) hx hb dX4_reads_280 hl (by decide) rfl (fun ls hl => ?_)
                              refine lv_iinc (v := nI (k + 1)) (lv' := [(13, .int (nI (k + 1))), (12, .int 1), (0, .ref (ad 0)), (1, .ref a), (2, .int (nI n)), (3, .int (nI mp)), (4, .int (nI ml)), (8, .int (nI (skA (x.2.1 13) n e))), (9, .int (nI pa)), (10, .int (nI pw)), (11, .int (nI pb))]) hx hb dX4_reads_282 hl (k := 10) rfl (nI_1 _) (by decide) rfl (fun ls hl => ?_)
                              refine lv_goto (tgt := 225) hx hb dX4_reads_285 (by decide) ?_
                              exact ih2 (k + 1) 1 H locs ls (by omega) (by omega) (Or.inl ⟨rfl, by obtain ⟨k9, z1, z2⟩ := hx9; exact ⟨k9, by omega, z2⟩⟩) hW (lv_sub hl [2, 3, 4, 5, 6, 7, 8, 9, 10, 1, 0] rfl)
                            · refine lv_iload hx hb dX4_reads_234 (lv_at hl 9 rfl) ?_
                              refine lv_if_ne (tgt := 275) hx hb dX4_reads_236 (by decide) (fun c_236 => absurd c_236 (by decide)) (fun c_236 => ?_)
                              refine lv_aload_n hx hb dX4_reads_239 rfl (lv_at hl 1 rfl) ?_
                              refine gtN hF hW (ms_r (List.mem_of_getElem? (i := 0) rfl)) (ci := 22) rfl in_X6 4 (by decide) (List.mem_of_getElem? (i := 11) rfl) rfl (v := .ref af) rfl dX4_reads_240 ?_
                              refine lv_iload hx hb dX4_reads_243 (lv_at hl 10 rfl) ?_
                              refine al_i hF hW (ms_r (List.mem_of_getElem? (i := 3) rfl)) 0 rfl (j := k) (rfl) (by omega) (by decide) dX4_reads_245 ?_
                              refine lv_eqv (congrArg Value.int (show ff k = nI (t.2.2.getD k (0, 0, 0)).1 from hel.1)) ?_
                              refine lv_iload hx hb dX4_reads_246 (lv_at hl 6 rfl) ?_
                              refine lv_icmp_ne (tgt := 279) hx hb dX4_reads_248 (by decide) (fun c_248 => ?_) (fun c_248 => ?_)
                              · refine lv_iconst (v := 0) hx hb dX4_reads_279 (by decide) ?_
                                refine lv_istore (lv' := [(12, .int 0), (0, .ref (ad 0)), (1, .ref a), (2, .int (nI n)), (3, .int (nI mp)), (4, .int (nI ml)), (8, .int (nI (skA (x.2.1 13) n e))), (9, .int (nI pa)), (10, .int (nI pw)), (11, .int (nI pb)), (13, .int (nI k))]) hx hb dX4_reads_280 hl (by decide) rfl (fun ls hl => ?_)
                                refine lv_iinc (v := nI (k + 1)) (lv' := [(13, .int (nI (k + 1))), (12, .int 0), (0, .ref (ad 0)), (1, .ref a), (2, .int (nI n)), (3, .int (nI mp)), (4, .int (nI ml)), (8, .int (nI (skA (x.2.1 13) n e))), (9, .int (nI pa)), (10, .int (nI pw)), (11, .int (nI pb))]) hx hb dX4_reads_282 hl (k := 10) rfl (nI_1 _) (by decide) rfl (fun ls hl => ?_)
                                refine lv_goto (tgt := 225) hx hb dX4_reads_285 (by decide) ?_
                                exact ih2 (k + 1) 0 H locs ls (by omega) (by omega) (Or.inr ⟨rfl, fun k9 h9 => if h : k9 = k then h ▸ (fun z => c_248 z.1) else hx9 k9 (by omega)⟩) hW (lv_sub hl [2, 3, 4, 5, 6, 7, 8, 9, 10, 1, 0] rfl)
                              · refine lv_aload_n hx hb dX4_reads_251 rfl (lv_at hl 1 rfl) ?_
                                refine gtN hF hW (ms_r (List.mem_of_getElem? (i := 0) rfl)) (ci := 22) rfl in_X6 5 (by decide) (List.mem_of_getElem? (i := 12) rfl) rfl (v := .ref av) rfl dX4_reads_252 ?_
                                refine lv_iload hx hb dX4_reads_255 (lv_at hl 10 rfl) ?_
                                refine al_i hF hW (ms_r (List.mem_of_getElem? (i := 4) rfl)) 0 rfl (j := k) (rfl) (by omega) (by decide) dX4_reads_257 ?_
                                refine lv_eqv (congrArg Value.int (show vf k = nI (t.2.2.getD k (0, 0, 0)).2.1 from hel.2.1)) ?_
                                refine lv_iload hx hb dX4_reads_258 (lv_at hl 7 rfl) ?_
                                refine lv_icmp_ne (tgt := 279) hx hb dX4_reads_260 (by decide) (fun c_260 => ?_) (fun c_260 => ?_)
                                · refine lv_iconst (v := 0) hx hb dX4_reads_279 (by decide) ?_
                                  refine lv_istore (lv' := [(12, .int 0), (0, .ref (ad 0)), (1, .ref a), (2, .int (nI n)), (3, .int (nI mp)), (4, .int (nI ml)), (8, .int (nI (skA (x.2.1 13) n e))), (9, .int (nI pa)), (10, .int (nI pw)), (11, .int (nI pb)), (13, .int (nI k))]) hx hb dX4_reads_280 hl (by decide) rfl (fun ls hl => ?_)
                                  refine lv_iinc (v := nI (k + 1)) (lv' := [(13, .int (nI (k + 1))), (12, .int 0), (0, .ref (ad 0)), (1, .ref a), (2, .int (nI n)), (3, .int (nI mp)), (4, .int (nI ml)), (8, .int (nI (skA (x.2.1 13) n e))), (9, .int (nI pa)), (10, .int (nI pw)), (11, .int (nI pb))]) hx hb dX4_reads_282 hl (k := 10) rfl (nI_1 _) (by decide) rfl (fun ls hl => ?_)
                                  refine lv_goto (tgt := 225) hx hb dX4_reads_285 (by decide) ?_
                                  exact ih2 (k + 1) 0 H locs ls (by omega) (by omega) (Or.inr ⟨rfl, fun k9 h9 => if h : k9 = k then h ▸ (fun z => c_260 z.2.1) else hx9 k9 (by omega)⟩) hW (lv_sub hl [2, 3, 4, 5, 6, 7, 8, 9, 10, 1, 0] rfl)
                                · refine lv_aload_n hx hb dX4_reads_263 rfl (lv_at hl 1 rfl) ?_
                                  refine gtN hF hW (ms_r (List.mem_of_getElem? (i := 0) rfl)) (ci := 22) rfl in_X6 6 (by decide) (List.mem_of_getElem? (i := 13) rfl) rfl (v := .ref at_) rfl dX4_reads_264 ?_
                                  refine lv_iload hx hb dX4_reads_267 (lv_at hl 10 rfl) ?_
                                  refine al_i hF hW (ms_r (List.mem_of_getElem? (i := 5) rfl)) 0 rfl (j := k) (rfl) (by omega) (by decide) dX4_reads_269 ?_
                                  refine lv_eqv (congrArg Value.int (show tf k = nI (t.2.2.getD k (0, 0, 0)).2.2 from hel.2.2)) ?_
                                  refine lv_iload hx hb dX4_reads_270 (lv_at hl 8 rfl) ?_
                                  refine lv_icmp_ne (tgt := 279) hx hb dX4_reads_272 (by decide) (fun c_272 => ?_) (fun c_272 => ?_)
                                  · refine lv_iconst (v := 0) hx hb dX4_reads_279 (by decide) ?_
                                    refine lv_istore (lv' := [(12, .int 0), (0, .ref (ad 0)), (1, .ref a), (2, .int (nI n)), (3, .int (nI mp)), (4, .int (nI ml)), (8, .int (nI (skA (x.2.1 13) n e))), (9, .int (nI pa)), (10, .int (nI pw)), (11, .int (nI pb)), (13, .int (nI k))]) hx hb dX4_reads_280 hl (by decide) rfl (fun ls hl => ?_)
                                    refine lv_iinc (v := nI (k + 1)) (lv' := [(13, .int (nI (k + 1))), (12, .int 0), (0, .ref (ad 0)), (1, .ref a), (2, .int (nI n)), (3, .int (nI mp)), (4, .int (nI ml)), (8, .int (nI (skA (x.2.1 13) n e))), (9, .int (nI pa)), (10, .int (nI pw)), (11, .int (nI pb))]) hx hb dX4_reads_282 hl (k := 10) rfl (nI_1 _) (by decide) rfl (fun ls hl => ?_)
                                    refine lv_goto (tgt := 225) hx hb dX4_reads_285 (by decide) ?_
                                    exact ih2 (k + 1) 0 H locs ls (by omega) (by omega) (Or.inr ⟨rfl, fun k9 h9 => if h : k9 = k then h ▸ (fun z => c_272 z.2.2) else hx9 k9 (by omega)⟩) hW (lv_sub hl [2, 3, 4, 5, 6, 7, 8, 9, 10, 1, 0] rfl)
                                  · refine lv_iconst (v := 1) hx hb dX4_reads_275 (by decide) ?_
                                    refine lv_goto (tgt := 280) hx hb dX4_reads_276 (by decide) ?_
                                    refine lv_istore (lv' := [(12, .int 1), (0, .ref (ad 0)), (1, .ref a), (2, .int (nI n)), (3, .int (nI mp)), (4, .int (nI ml)), (8, .int (nI (skA (x.2.1 13) n e))), (9, .int (nI pa)), (10, .int (nI pw)), (11, .int (nI pb)), (13, .int (nI k))]) hx hb dX4_reads_280 hl (by decide) rfl (fun ls hl => ?_)
                                    refine lv_iinc (v := nI (k + 1)) (lv' := [(13, .int (nI (k + 1))), (12, .int 1), (0, .ref (ad 0)), (1, .ref a), (2, .int (nI n)), (3, .int (nI mp)), (4, .int (nI ml)), (8, .int (nI (skA (x.2.1 13) n e))), (9, .int (nI pa)), (10, .int (nI pw)), (11, .int (nI pb))]) hx hb dX4_reads_282 hl (k := 10) rfl (nI_1 _) (by decide) rfl (fun ls hl => ?_)
                                    refine lv_goto (tgt := 225) hx hb dX4_reads_285 (by decide) ?_
                                    exact ih2 (k + 1) 1 H locs ls (by omega) (by omega) (Or.inl ⟨rfl, k, by omega, c_248, c_260, c_272⟩) hW (lv_sub hl [2, 3, 4, 5, 6, 7, 8, 9, 10, 1, 0] rfl)
                      exact loop_225 _ 0 0 _ _ _ (Nat.lt_succ_self _) (Nat.zero_le _) (Or.inr ⟨rfl, fun k9 h9 => absurd h9 (Nat.not_lt_zero _)⟩) hW (lv_sub hl [7, 8, 9, 10, 11, 5, 4, 3, 2, 1, 0] rfl)
                  · have hk2 : ¬ tkK (x.2.1 13) n (tkE (x.2.1 13) n (tkE (x.2.1 13) n e)) = 2 := fun z => c_176 (by rw [z]; rfl)
                    refine lv_aload_n hx hb dX4_reads_179 rfl (lv_at hl 4 rfl) ?_
                    refine lv_iconst (v := 1) hx hb dX4_reads_180 (by decide) ?_
                    refine lv_aload_n hx hb dX4_reads_181 rfl (lv_at hl 4 rfl) ?_
                    refine gM0_place hF hW q1131 (v := nI (skA (x.2.1 13) n (tkE (x.2.1 13) n (tkE (x.2.1 13) n e)))) (w15) dX4_reads_182 ?_
                    refine cl_q (ru_V (As := [.int 1, .int (nI (skA (x.2.1 13) n (tkE (x.2.1 13) n (tkE (x.2.1 13) n e))))]) (rest := []) hF (mX4_stop l G ad (mdx (xi x 11 0) v3 lt3) ((a, .inr (22, [.int (nI t.1.length), .int (nI t.2.2.length), .ref an, .ref aw, .ref af, .ref av, .ref at_])) :: (an, .inl (G.2.2.1 3, 8, .inr (.inl nf))) :: (aw, .inl (G.2.2.1 0, 8, .inl wf)) :: (af, .inl (G.2.2.1 0, 10, .inl ff)) :: (av, .inl (G.2.2.1 0, 10, .inl vf)) :: (at_, .inl (G.2.2.1 0, 10, .inl tf)) :: T) 1 (nI (skA (x.2.1 13) n (tkE (x.2.1 13) n (tkE (x.2.1 13) n e))))) (cwV 2 hts (lw_V q1318 q1320 qs40 q66 q1321) rfl rfl rfl (by decide +kernel) ⟨lb hR1 rfl, lb hR4 rfl⟩) hW (List.mem_of_getElem? (i := 0) rfl) (ci := 20) rfl rfl rfl hl.1 rfl (lv_room (Nat.le_of_ble_eq_true rfl)) dX4_reads_185 ⟨by omega, by omega⟩) hW (fun r_ u_ H locs h_ hW => ?_)
                    obtain ⟨rfl, rfl⟩ : r_ = some (ad 20) ∧ u_ = xi (xi (mdx (xi x 11 0) v3 lt3) 21 1) 22 (nI (skA (x.2.1 13) n (tkE (x.2.1 13) n (tkE (x.2.1 13) n e)))) := h_
                    have hW : pM G (MWl G ad (mdx (xi (xi (xi x 11 0) 21 1) 22 (nI (skA (x.2.1 13) n (tkE (x.2.1 13) n (tkE (x.2.1 13) n e))))) v3 lt3) ++ ((a, .inr (22, [.int (nI t.1.length), .int (nI t.2.2.length), .ref an, .ref aw, .ref af, .ref av, .ref at_])) :: (an, .inl (G.2.2.1 3, 8, .inr (.inl nf))) :: (aw, .inl (G.2.2.1 0, 8, .inl wf)) :: (af, .inl (G.2.2.1 0, 10, .inl ff)) :: (av, .inl (G.2.2.1 0, 10, .inl vf)) :: (at_, .inl (G.2.2.1 0, 10, .inl tf)) :: T)) s _ _ := hW
                    refine lv_eqv (y := .ref (ad 20)) rfl ?_
                    refine vx_athrow hx hb dX4_reads_188 ?_
                    exact ox htab hLk hQx (by omega) (by omega) (1, skA (x.2.1 13) n (tkE (x.2.1 13) n (tkE (x.2.1 13) n e)), v3, lt3) (hres.trans (rd_l hk0 h58 (by unfold lnkF; rw [if_neg (fun z => z hk1)]; rw [hp1]; dsimp only; rw [hp2]; dsimp only; rw [if_pos hk2]))) (pM.drop6 hW) (List.mem_of_getElem? (i := 20) rfl) (ci := 21) rfl
              · refine cx_i (rx_V (As := []) (rest := []) hF (mX4_wordHere_no1 l G ad (xi x 11 0) ((a, .inr (22, [.int (nI t.1.length), .int (nI t.2.2.length), .ref an, .ref aw, .ref af, .ref av, .ref at_])) :: (an, .inl (G.2.2.1 3, 8, .inr (.inl nf))) :: (aw, .inl (G.2.2.1 0, 8, .inl wf)) :: (af, .inl (G.2.2.1 0, 10, .inl ff)) :: (av, .inl (G.2.2.1 0, 10, .inl vf)) :: (at_, .inl (G.2.2.1 0, 10, .inl tf)) :: T) v2 lt2 (tkK (x.2.1 13) n (tkE (x.2.1 13) n e)) (skA (x.2.1 13) n (tkE (x.2.1 13) n e)) x14 hk1b x15) (cwV 0 hts (lw_V q1330 q1332 qs42 q66 q1333) rfl rfl rfl (by decide +kernel) ⟨lb hR1 rfl, lb hR4 rfl⟩) hW (List.mem_of_getElem? (i := 0) rfl) (ci := 20) rfl rfl rfl hl.1 rfl (lv_room (Nat.le_of_ble_eq_true rfl)) dX4_reads_166 ⟨by omega, by omega⟩) hW (fun u_11 H locs h_12 hW => ?_) (fun r_10 u_11 H locs h_12 hW => ?_)
                · exact ox htab hLk hQx (by omega) (by omega) u_11 (by obtain ⟨z1, z2⟩ := h_12; rw [z1, z2]; exact absurd hk1 hk1b) (pM.drop6 hW) (List.mem_of_getElem? (i := 20) rfl) (ci := 21) rfl
                · exact h_12.elim
      · have hk0 : ¬ tkK (x.2.1 13) n e = 2 := fun z => c_18 (by rw [z]; rfl)
        refine lv_aload_n hx hb dX4_reads_21 rfl (lv_at hl 0 rfl) ?_
        refine lv_iconst (v := 1) hx hb dX4_reads_22 (by decide) ?_
        refine lv_aload_n hx hb dX4_reads_23 rfl (lv_at hl 0 rfl) ?_
        refine gM0_place hF hW q1131 (v := nI (skA (x.2.1 13) n e)) (t15) dX4_reads_24 ?_
        refine cl_q (ru_V (As := [.int 1, .int (nI (skA (x.2.1 13) n e))]) (rest := []) hF (mX4_stop l G ad (mdx (xi x 11 0) v lt) ((a, .inr (22, [.int (nI t.1.length), .int (nI t.2.2.length), .ref an, .ref aw, .ref af, .ref av, .ref at_])) :: (an, .inl (G.2.2.1 3, 8, .inr (.inl nf))) :: (aw, .inl (G.2.2.1 0, 8, .inl wf)) :: (af, .inl (G.2.2.1 0, 10, .inl ff)) :: (av, .inl (G.2.2.1 0, 10, .inl vf)) :: (at_, .inl (G.2.2.1 0, 10, .inl tf)) :: T) 1 (nI (skA (x.2.1 13) n e))) (cwV 2 hts (lw_V q1318 q1320 qs40 q66 q1321) rfl rfl rfl (by decide +kernel) ⟨lb hR1 rfl, lb hR4 rfl⟩) hW (List.mem_of_getElem? (i := 0) rfl) (ci := 20) rfl rfl rfl hl.1 rfl (lv_room (Nat.le_of_ble_eq_true rfl)) dX4_reads_27 ⟨by omega, by omega⟩) hW (fun r_ u_ H locs h_ hW => ?_)
        obtain ⟨rfl, rfl⟩ : r_ = some (ad 20) ∧ u_ = xi (xi (mdx (xi x 11 0) v lt) 21 1) 22 (nI (skA (x.2.1 13) n e)) := h_
        have hW : pM G (MWl G ad (mdx (xi (xi (xi x 11 0) 21 1) 22 (nI (skA (x.2.1 13) n e))) v lt) ++ ((a, .inr (22, [.int (nI t.1.length), .int (nI t.2.2.length), .ref an, .ref aw, .ref af, .ref av, .ref at_])) :: (an, .inl (G.2.2.1 3, 8, .inr (.inl nf))) :: (aw, .inl (G.2.2.1 0, 8, .inl wf)) :: (af, .inl (G.2.2.1 0, 10, .inl ff)) :: (av, .inl (G.2.2.1 0, 10, .inl vf)) :: (at_, .inl (G.2.2.1 0, 10, .inl tf)) :: T)) s _ _ := hW
        refine lv_eqv (y := .ref (ad 20)) rfl ?_
        refine vx_athrow hx hb dX4_reads_30 ?_
        exact ox htab hLk hQx (by omega) (by omega) (1, skA (x.2.1 13) n e, v, lt) (hres.trans (rd_1 hk0)) (pM.drop6 hW) (List.mem_of_getElem? (i := 20) rfl) (ci := 21) rfl
  exact loop_8 _ t0 nf0 wf0 ff0 vf0 tf0 0 (n + 1) v1 lt1 _ _ _ (Nat.lt_succ_self _) (Nat.zero_le _) (by omega) (rfl) (ht0) (hok0) (b12) (b13) (b14) (b15) (b16) (bw) hW (lv_sub hl [1, 2, 3, 4, 5, 0] rfl)
