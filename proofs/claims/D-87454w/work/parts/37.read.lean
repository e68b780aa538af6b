/-! a whole text is read -/
def prtF (f : Nat → Int32) (n : Nat) (wds : List (List Nat)) (t : Tx) (mp e : Nat) : (Nat × Nat) ⊕ Nat :=
  match pix t.1 (tkW f n e) with
  | some _ => .inl (3, skA f n e)
  | none => if tkK f n (tkE f n (tkE f n e)) ≠ 2 then .inl (1, skA f n (tkE f n (tkE f n e))) else
    match pix wds (tkW f n (tkE f n (tkE f n e))) with
    | none => .inl (2, skA f n (tkE f n (tkE f n e)))
    | some w => if t.1.length = mp then .inl (4, skA f n e) else .inr w
def rdL (f : Nat → Int32) (n : Nat) (wds : List (List Nat)) (mp ml : Nat) : Nat → Nat → Tx → (Nat × Nat) ⊕ Tx
  | 0, _, t => .inr t
  | g + 1, e, t =>
    if tkK f n e ≠ 2 then .inl (1, skA f n e) else
    if tkK f n (tkE f n e) = 58 then
      match prtF f n wds t mp e with
      | .inl q => .inl q
      | .inr w => if tkK f n (tkE f n (tkE f n (tkE f n e))) = 59 then rdL f n wds mp ml g (tkE f n (tkE f n (tkE f n (tkE f n e)))) (t.1 ++ [tkW f n e], t.2.1 ++ [w], t.2.2) else if tkK f n (tkE f n (tkE f n (tkE f n e))) = 0 then .inr (t.1 ++ [tkW f n e], t.2.1 ++ [w], t.2.2) else .inl (1, skA f n (tkE f n (tkE f n (tkE f n e))))
    else match lnkF f n wds t ml e with
      | .inl q => .inl q
      | .inr l => if tkK f n (tkE f n (tkE f n (tkE f n e))) = 59 then rdL f n wds mp ml g (tkE f n (tkE f n (tkE f n (tkE f n e)))) (t.1, t.2.1, t.2.2 ++ [l]) else if tkK f n (tkE f n (tkE f n (tkE f n e))) = 0 then .inr (t.1, t.2.1, t.2.2 ++ [l]) else .inl (1, skA f n (tkE f n (tkE f n (tkE f n e))))
/-- behind an item -/
def rdC (f : Nat → Int32) (n : Nat) (wds : List (List Nat)) (mp ml g e3 : Nat) (t : Tx) : (Nat × Nat) ⊕ Tx := if tkK f n e3 = 59 then rdL f n wds mp ml g (tkE f n e3) t else if tkK f n e3 = 0 then .inr t else .inl (1, skA f n e3)
theorem rd_1 {f : Nat → Int32} {n : Nat} {wds : List (List Nat)} {mp ml g e : Nat} {t : Tx} (h : tkK f n e ≠ 2) : rdL f n wds mp ml (g + 1) e t = .inl (1, skA f n e) := if_pos h
theorem rd_p {f : Nat → Int32} {n : Nat} {wds : List (List Nat)} {mp ml g e : Nat} {t : Tx} {q : Nat × Nat} (h : tkK f n e = 2) (h2 : tkK f n (tkE f n e) = 58) (hq : prtF f n wds t mp e = .inl q) : rdL f n wds mp ml (g + 1) e t = .inl q := by
  unfold rdL
  rw [if_neg (fun z => z h), if_pos h2, hq]
theorem rd_pc {f : Nat → Int32} {n : Nat} {wds : List (List Nat)} {mp ml g e w : Nat} {t : Tx} (h : tkK f n e = 2) (h2 : tkK f n (tkE f n e) = 58) (hq : prtF f n wds t mp e = .inr w) : rdL f n wds mp ml (g + 1) e t = rdC f n wds mp ml g (tkE f n (tkE f n (tkE f n e))) (t.1 ++ [tkW f n e], t.2.1 ++ [w], t.2.2) := by
  conv => lhs; unfold rdL
  rw [if_neg (fun z => z h), if_pos h2, hq]
  rfl
theorem rd_l {f : Nat → Int32} {n : Nat} {wds : List (List Nat)} {mp ml g e : Nat} {t : Tx} {q : Nat × Nat} (h : tkK f n e = 2) (h2 : ¬ tkK f n (tkE f n e) = 58) (hq : lnkF f n wds t ml e = .inl q) : rdL f n wds mp ml (g + 1) e t = .inl q := by
  unfold rdL
  rw [if_neg (fun z => z h), if_neg h2, hq]
theorem rd_lc {f : Nat → Int32} {n : Nat} {wds : List (List Nat)} {mp ml g e : Nat} {t : Tx} {q : Nat × Nat × Nat} (h : tkK f n e = 2) (h2 : ¬ tkK f n (tkE f n e) = 58) (hq : lnkF f n wds t ml e = .inr q) : rdL f n wds mp ml (g + 1) e t = rdC f n wds mp ml g (tkE f n (tkE f n (tkE f n e))) (t.1, t.2.1, t.2.2 ++ [q]) := by
  conv => lhs; unfold rdL
  rw [if_neg (fun z => z h), if_neg h2, hq]
  rfl
theorem lnk_in {f : Nat → Int32} {n : Nat} {wds : List (List Nat)} {t : Tx} {ml e : Nat} {q : Nat × Nat × Nat} (h : lnkF f n wds t ml e = .inr q) : q.1 < t.1.length ∧ q.2.1 < wds.length ∧ q.2.2 < t.1.length ∧ t.2.2.length ≠ ml := by
  unfold lnkF at h
  by_cases k1 : tkK f n (tkE f n e) ≠ 2
  · rw [if_pos k1] at h
    cases h
  rw [if_neg k1] at h
  cases h1 : pix t.1 (tkW f n e) with
  | none => rw [h1] at h; cases h
  | some a =>
    rw [h1] at h
    dsimp only at h
    cases h2 : pix wds (tkW f n (tkE f n e)) with
    | none => rw [h2] at h; cases h
    | some w =>
      rw [h2] at h
      dsimp only at h
      by_cases k2 : tkK f n (tkE f n (tkE f n e)) ≠ 2
      · rw [if_pos k2] at h
        cases h
      rw [if_neg k2] at h
      cases h3 : pix t.1 (tkW f n (tkE f n (tkE f n e))) with
      | none => rw [h3] at h; cases h
      | some b =>
        rw [h3] at h
        dsimp only at h
        by_cases k3 : (a, w, b) ∈ t.2.2
        · rw [if_pos k3] at h
          cases h
        rw [if_neg k3] at h
        by_cases k4 : t.2.2.length = ml
        · rw [if_pos k4] at h
          cases h
        rw [if_neg k4] at h
        cases h
        exact ⟨(pix_some h1).1, (pix_some h2).1, (pix_some h3).1, k4⟩
theorem fuel_ok {n e e3 e4 g : Nat} (h1 : n - e < g + 1) (h2 : e ≤ e3) (h3 : e3 < e4) (h4 : e4 ≤ n) : n - e4 < g := by omega
theorem pM.drop4 {G : pG} {A Y : va_W} {c1 c2 c3 c4 : Nat × va_E} {s : State} {H : Heap} {locs : List Loc} (h : pM G (A ++ (c1 :: c2 :: c3 :: c4 :: Y)) s H locs) : pM G (A ++ Y) s H locs :=
  h.sl (List.Sublist.append (List.Sublist.refl _) (List.Sublist.cons _ (List.Sublist.cons _ (List.Sublist.cons _ (List.Sublist.cons _ (List.Sublist.refl _))))))

set_option maxRecDepth 100000 in
set_option maxHeartbeats 16000000 in
theorem mX1_read (l : Launch) (G : pG) (ad : Nat → Nat) (x : XV) (T : va_W) (v0 lt0 : Nat → Int32) (wd0 : Option Nat) (n : Nat) (hn : n ≤ 300) (wds : List (List Nat)) (hw : Wrep G T (x.2.2.1 0) wds) (hnw : wds.length ≤ 60) (h1 : x.1 1 = nI wds.length) (hndw : wds.Nodup) (a an aw al : Nat) (nf0 lf0 : Nat → Option Nat) (wf0 : Nat → Int32) (t0 : Tx) (ht0 : HTc G T t0 nf0 lf0 wf0) (mp ml : Nat) (hok0 : TxOk wds.length mp ml t0) (hmp : mp ≤ 8) (hml : ml ≤ 10) : vx_Met l yX1_read (ws_ yX1_read cX1_read 10 (some (.object "PatentHall$Text"))) ({ frames := 7, cells := 2711, slots := 17773, locals := 171 } : Room) (va_Pc [.ref (ad 2), .int (nI n), .ref (ad 0), .ref a, .int (nI mp), .int (nI ml)] (fun U => pW G (HWl G ad (rdx x v0 lt0 wd0) ++ ((a, .inr (4, [.ref an, .ref aw, .ref al, .int (nI t0.1.length), .int (nI t0.2.2.length)])) :: (an, .inl (G.2.2.1 4, 8, .inr (.inr (.inr (.inr nf0))))) :: (aw, .inl (G.2.2.1 0, 8, .inl wf0)) :: (al, .inl (G.2.2.1 10, 10, .inr (.inr (.inr (.inr lf0))))) :: T)) U)) (va_Qr (fun (u : Tx × (Nat → Option Nat) × (Nat → Option Nat) × (Nat → Int32) × RS) => rdL (x.2.1 0) n wds mp ml (n + 1) 0 t0 = .inr u.1 ∧ TxOk wds.length mp ml u.1 ∧ HTc G (T ++ u.2.2.2.2.2.2.2) u.1 u.2.1 u.2.2.1 u.2.2.2.1) (fun (u : Tx × (Nat → Option Nat) × (Nat → Option Nat) × (Nat → Int32) × RS) (ra : Nat) t9 => pW G (HWl G ad (rdx x u.2.2.2.2.1 u.2.2.2.2.2.1 u.2.2.2.2.2.2.1) ++ ((ra, .inr (4, [.ref an, .ref aw, .ref al, .int (nI u.1.1.length), .int (nI u.1.2.2.length)])) :: (an, .inl (G.2.2.1 4, 8, .inr (.inr (.inr (.inr u.2.1))))) :: (aw, .inl (G.2.2.1 0, 8, .inl u.2.2.2.1)) :: (al, .inl (G.2.2.1 10, 10, .inr (.inr (.inr (.inr u.2.2.1))))) :: (T ++ u.2.2.2.2.2.2.2))) t9) (pA G)) (pX G RX2 (fun (u : RS) => ∃ flt plc, rdL (x.2.1 0) n wds mp ml (n + 1) 0 t0 = .inl (flt, plc) ∧ PX4 flt plc u) (fun _ => ad 4) (fun u => HWl G ad (rdx x u.1 u.2.1 u.2.2.1) ++ (T ++ u.2.2.2))) 2711 17773 (pA G) := by
  refine mx (by decide) (Nat.le_of_ble_eq_true rfl) ?_
  intro pp ee R s m below meth c ls Q hF hRt hLk htab hR hQx hQ hW hl
  have hx := hF.1
  have hb := hF.2.1
  have hts := hF.2.2.2.2
  have hR1 : R.frames = 7 := by rw [hR]
  have hR2 : R.cells = 2711 := by rw [hR]
  have hR3 : R.slots = 17773 := by rw [hR]
  have hR4 : R.locals = 171 := by rw [hR]
  have hl : lv_has ls 10 [(0, .ref (ad 2)), (1, .int (nI n)), (2, .ref (ad 0)), (3, .ref a), (4, .int (nI mp)), (5, .int (nI ml))] := hl
  have hW : pM G (HWl G ad (rdx x v0 lt0 wd0) ++ ((a, .inr (4, [.ref an, .ref aw, .ref al, .int (nI t0.1.length), .int (nI t0.2.2.length)])) :: (an, .inl (G.2.2.1 4, 8, .inr (.inr (.inr (.inr nf0))))) :: (aw, .inl (G.2.2.1 0, 8, .inl wf0)) :: (al, .inl (G.2.2.1 10, 10, .inr (.inr (.inr (.inr lf0))))) :: T)) s s.heap [] := hW
  refine lv_aload_n hx hb dX1_read_0 rfl (lv_at hl 0 rfl) ?_
  refine lv_iload_n hx hb dX1_read_1 rfl (lv_at hl 1 rfl) ?_
  refine cl_v (ru_V (As := [.int (nI n)]) (rest := []) hF (mX1_begin l G ad x ((a, .inr (4, [.ref an, .ref aw, .ref al, .int (nI t0.1.length), .int (nI t0.2.2.length)])) :: (an, .inl (G.2.2.1 4, 8, .inr (.inr (.inr (.inr nf0))))) :: (aw, .inl (G.2.2.1 0, 8, .inl wf0)) :: (al, .inl (G.2.2.1 10, 10, .inr (.inr (.inr (.inr lf0))))) :: T) v0 lt0 wd0 n hn) (cwV 1 hts (lw_V q378 q380 qs4 q60 q381) rfl rfl rfl (by decide +kernel) ⟨lb hR1 rfl, lb hR4 rfl⟩) hW (List.mem_of_getElem? (i := 2) rfl) (ci := 1) rfl rfl rfl hl.1 rfl (lv_room (Nat.le_of_ble_eq_true rfl)) dX1_read_2 ⟨by omega, by omega⟩) hW (fun u_ H locs h_ hW => ?_)
  obtain ⟨v1, lt1, wd1, N1⟩ := u_
  obtain ⟨b14, b15, b16, b17, bw⟩ := h_
  have hW : pM G (HWl G ad (rdx x v1 lt1 wd1) ++ ((a, .inr (4, [.ref an, .ref aw, .ref al, .int (nI t0.1.length), .int (nI t0.2.2.length)])) :: (an, .inl (G.2.2.1 4, 8, .inr (.inr (.inr (.inr nf0))))) :: (aw, .inl (G.2.2.1 0, 8, .inl wf0)) :: (al, .inl (G.2.2.1 10, 10, .inr (.inr (.inr (.inr lf0))))) :: (T ++ N1))) s _ _ := hW
  refine lv_iconst (v := 1) hx hb dX1_read_5 (by decide) ?_
  refine lv_istore (lv' := [(6, .int 1), (0, .ref (ad 2)), (1, .int (nI n)), (2, .ref (ad 0)), (3, .ref a), (4, .int (nI mp)), (5, .int (nI ml))]) hx hb dX1_read_6 hl (by decide) rfl (fun ls hl => ?_)
  have loop_8 : ∀ (nn : Nat) (t : Tx) (nf : Nat → Option Nat) (lf : Nat → Option Nat) (wf : Nat → Int32) (e : Nat) (g : Nat) (v : Nat → Int32) (lt : Nat → Int32) (wd : Option Nat) (N : va_W) (H : Heap) (locs : List Loc) (ls : Array Slot), n - e < nn → (e ≤ n) → (n - e < g) → (rdL (x.2.1 0) n wds mp ml (n + 1) 0 t0 = rdL (x.2.1 0) n wds mp ml g e t) → (HTc G (T ++ N) t nf lf wf) → (TxOk wds.length mp ml t) → (v 14 = nI n) → (v 15 = nI (tkE (x.2.1 0) n e)) → (v 16 = nI (tkK (x.2.1 0) n e)) → (v 17 = nI (skA (x.2.1 0) n e)) → (tkK (x.2.1 0) n e = 2 → ∃ a, wd = some a ∧ HS G (T ++ N) a (tkW (x.2.1 0) n e)) → pM G (HWl G ad (rdx x v lt wd) ++ ((a, .inr (4, [.ref an, .ref aw, .ref al, .int (nI t.1.length), .int (nI t.2.2.length)])) :: (an, .inl (G.2.2.1 4, 8, .inr (.inr (.inr (.inr nf))))) :: (aw, .inl (G.2.2.1 0, 8, .inl wf)) :: (al, .inl (G.2.2.1 10, 10, .inr (.inr (.inr (.inr lf))))) :: (T ++ N))) s H locs → lv_has ls 10 [(0, .ref (ad 2)), (1, .int (nI n)), (2, .ref (ad 0)), (3, .ref a), (4, .int (nI mp)), (5, .int (nI ml)), (6, .int 1)] → W pp l ee R s m ([.ref (ad 2), .int (nI n), .ref (ad 0), .ref a, .int (nI mp), .int (nI ml)] : List Value).toArray below meth c H locs (2 + 9 * e) (14 + 59 * e) Q (F0 m 8 ls []) := by
    intro nn
    induction nn with
    | zero => intro t nf lf wf e g v lt wd N H locs ls hm; exact absurd hm (Nat.not_lt_zero _)
    | succ nn ih =>
      intro t nf lf wf e g v lt wd N H locs ls hm he hg hres ht hok t14 t15 t16 t17 tw hW hl
      obtain ⟨g, rfl⟩ : ∃ z, g = z + 1 := ⟨g - 1, by omega⟩
      refine lv_iload hx hb dX1_read_8 (lv_at hl 6 rfl) ?_
      refine lv_if_eq (tgt := 135) hx hb dX1_read_10 (by decide) (fun c_10 => absurd c_10 (by decide)) (fun c_10 => ?_)
      refine lv_aload_n hx hb dX1_read_13 rfl (lv_at hl 0 rfl) ?_
      by_cases hk0 : tkK (x.2.1 0) n e = 2
      · obtain ⟨a0, hwd0, hs0⟩ := tw hk0
        refine cl_q (ru_V (As := []) (rest := []) hF (mX1_letters_ok l G ad x ((a, .inr (4, [.ref an, .ref aw, .ref al, .int (nI t.1.length), .int (nI t.2.2.length)])) :: (an, .inl (G.2.2.1 4, 8, .inr (.inr (.inr (.inr nf))))) :: (aw, .inl (G.2.2.1 0, 8, .inl wf)) :: (al, .inl (G.2.2.1 10, 10, .inr (.inr (.inr (.inr lf))))) :: (T ++ N)) v lt wd a0 (Eq.trans t16 (by rw [hk0]; rfl)) hwd0 ) (cwV 0 hts (lw_V q579 q581 qs12 q60 q582) rfl rfl rfl (by decide +kernel) ⟨lb hR1 rfl, lb hR4 rfl⟩) hW (List.mem_of_getElem? (i := 2) rfl) (ci := 1) rfl rfl rfl hl.1 rfl (lv_room (Nat.le_of_ble_eq_true rfl)) dX1_read_14 ⟨by omega, by omega⟩) hW (fun r_1 u_2 H locs h_3 hW => ?_)
        obtain rfl : r_1 = some a0 := h_3
        have hW : pM G (HWl G ad (rdx x v lt wd) ++ ((a, .inr (4, [.ref an, .ref aw, .ref al, .int (nI t.1.length), .int (nI t.2.2.length)])) :: (an, .inl (G.2.2.1 4, 8, .inr (.inr (.inr (.inr nf))))) :: (aw, .inl (G.2.2.1 0, 8, .inl wf)) :: (al, .inl (G.2.2.1 10, 10, .inr (.inr (.inr (.inr lf))))) :: (T ++ N))) s _ _ := hW
        refine lv_eqv (y := .ref a0) rfl ?_
        refine lv_astore (lv' := [(7, .ref a0), (0, .ref (ad 2)), (1, .int (nI n)), (2, .ref (ad 0)), (3, .ref a), (4, .int (nI mp)), (5, .int (nI ml)), (6, .int 1)]) hx hb dX1_read_17 hl (by decide) rfl (fun ls hl => ?_)
        refine lv_aload_n hx hb dX1_read_19 rfl (lv_at hl 1 rfl) ?_
        refine gH2_at hF hW q189 (v := nI (skA (x.2.1 0) n e)) (t17) dX1_read_20 ?_
        refine lv_istore (lv' := [(8, .int (nI (skA (x.2.1 0) n e))), (7, .ref a0), (0, .ref (ad 2)), (1, .int (nI n)), (2, .ref (ad 0)), (3, .ref a), (4, .int (nI mp)), (5, .int (nI ml)), (6, .int 1)]) hx hb dX1_read_23 hl (by decide) rfl (fun ls hl => ?_)
        refine lv_aload_n hx hb dX1_read_25 rfl (lv_at hl 2 rfl) ?_
        refine cl_v (ru_V (As := []) (rest := []) hF (mX1_next l G ad x ((a, .inr (4, [.ref an, .ref aw, .ref al, .int (nI t.1.length), .int (nI t.2.2.length)])) :: (an, .inl (G.2.2.1 4, 8, .inr (.inr (.inr (.inr nf))))) :: (aw, .inl (G.2.2.1 0, 8, .inl wf)) :: (al, .inl (G.2.2.1 10, 10, .inr (.inr (.inr (.inr lf))))) :: (T ++ N)) v lt wd (tkE (x.2.1 0) n e) n hn t14 t15 (tkE_le he)) (cwV 0 hts (lw_V q382 q384 qs5 q60 q385) rfl rfl rfl (by decide +kernel) ⟨lb hR1 rfl, lb hR4 rfl⟩) hW (List.mem_of_getElem? (i := 2) rfl) (ci := 1) rfl rfl rfl hl.1 rfl (lv_room (Nat.le_of_ble_eq_true rfl)) dX1_read_26 ⟨by omega, by omega⟩) hW (fun u_ H locs h_ hW => ?_)
        obtain ⟨v2, lt2, wd2, N2⟩ := u_
        obtain ⟨x14, x15, x16, x17, xw⟩ := h_
        have hW : pM G (HWl G ad (rdx x v2 lt2 wd2) ++ ((a, .inr (4, [.ref an, .ref aw, .ref al, .int (nI t.1.length), .int (nI t.2.2.length)])) :: (an, .inl (G.2.2.1 4, 8, .inr (.inr (.inr (.inr nf))))) :: (aw, .inl (G.2.2.1 0, 8, .inl wf)) :: (al, .inl (G.2.2.1 10, 10, .inr (.inr (.inr (.inr lf))))) :: ((T ++ N) ++ N2))) s _ _ := hW
        refine lv_aload_n hx hb dX1_read_29 rfl (lv_at hl 2 rfl) ?_
        refine gH2_token hF hW q188 (v := nI (tkK (x.2.1 0) n (tkE (x.2.1 0) n e))) (x16) dX1_read_30 ?_
        refine lv_bipush (v := 58) hx hb dX1_read_33 (by decide) ?_
        refine lv_icmp_ne (tgt := 95) hx hb dX1_read_35 (by decide) (fun c_35 => ?_) (fun c_35 => ?_)
        · have h58 : ¬ tkK (x.2.1 0) n (tkE (x.2.1 0) n e) = 58 := fun z => c_35 (by rw [z]; rfl)
          refine lv_aload_n hx hb dX1_read_95 rfl (lv_at hl 2 rfl) ?_
          refine lv_aload_n hx hb dX1_read_96 rfl (lv_at hl 4 rfl) ?_
          refine lv_aload_n hx hb dX1_read_97 rfl (lv_at hl 5 rfl) ?_
          refine lv_aload hx hb dX1_read_98 (lv_at hl 1 rfl) ?_
          refine lv_iload hx hb dX1_read_100 (lv_at hl 0 rfl) ?_
          refine lv_iload hx hb dX1_read_102 (lv_at hl 7 rfl) ?_
          have ht2 : HTc G ((T ++ N) ++ N2) t nf lf wf := (ht.mono (fun q h => (ms_l h)))
          have hs02 : HS G ((T ++ N) ++ N2) a0 (tkW (x.2.1 0) n e) := (hs0.mono (fun q h => (ms_l h)))
          refine cx_v (rx_V (As := [.ref (ad 0), .ref a, .ref a0, .int (nI (skA (x.2.1 0) n e)), .int (nI ml)]) (rest := []) hF (mX1_link l G ad x ((T ++ N) ++ N2) v2 lt2 wd2 n wds (fun k hk => by obtain ⟨sa, q1, q2⟩ := hw k hk; exact ⟨sa, q1, q2.mono (fun q h => (ms_l (ms_l h)))⟩) hnw h1 hndw a an aw al nf lf wf t ht2 mp ml hok hmp hml hn e (tkE (x.2.1 0) n e) he rfl x14 x15 x16 x17 (fun z => by obtain ⟨q, q1, q2⟩ := xw z; exact ⟨q, q1, q2.mono (fun _ h => ms_r h)⟩) a0 hs02) (cwV 5 hts (lw_V q606 q608 qs15 q60 q609) rfl rfl rfl (by decide +kernel) ⟨lb hR1 rfl, lb hR4 rfl⟩) hW (List.mem_of_getElem? (i := 2) rfl) (ci := 1) rfl rfl rfl hl.1 rfl (lv_room (Nat.le_of_ble_eq_true rfl)) dX1_read_104 ⟨by omega, by omega⟩) hW (fun u_5 H locs h_6 hW => ?_) (fun u_5 H locs h_6 hW => ?_)
          · obtain ⟨flt, plc, hq1, hq2⟩ := h_6
            exact ox htab hLk hQx (by omega) (by omega) (u_5.1, u_5.2.1, u_5.2.2.1, (N ++ N2) ++ u_5.2.2.2) (⟨flt, plc, hres.trans (rd_l hk0 h58 hq1), hq2⟩) (by have hW := pM.drop4 (Y := ((T ++ N) ++ N2) ++ u_5.2.2.2) hW; simpa only [List.append_assoc, List.append_nil, List.cons_append, List.nil_append] using hW) (List.mem_of_getElem? (i := 4) rfl) (ci := 2) rfl
          · obtain ⟨lq, la, v4, lt4, wd4, N4⟩ := u_5
            obtain ⟨hq1, hq2, q14, q15, q16, q17, qw⟩ := h_6
            have hli := lnk_in hq1
            obtain ⟨t2, et2⟩ : ∃ z : Tx, z = (t.1, t.2.1, t.2.2 ++ [lq]) := ⟨_, rfl⟩
            have el1 : t2.1.length = t.1.length := by rw [et2]
            have el2 : t2.2.2.length = t.2.2.length + 1 := by rw [et2]; exact List.length_append
            have ht9 : HTc G (T ++ ((N ++ N2) ++ N4)) t2 nf (va_up lf t.2.2.length (some la)) wf := by rw [et2]; exact HTc.link (ht.mono (fun q h => by simpa only [List.append_assoc] using (ms_l (ms_l h)))) (by simpa only [List.append_assoc] using hq2)
            have hok9 : TxOk wds.length mp ml t2 := by rw [et2]; exact hok.link ⟨hli.1, hli.2.1, hli.2.2.1⟩ hli.2.2.2
            have hres9 : rdL (x.2.1 0) n wds mp ml (n + 1) 0 t0 = rdC (x.2.1 0) n wds mp ml g (tkE (x.2.1 0) n (tkE (x.2.1 0) n (tkE (x.2.1 0) n e))) t2 := by rw [et2]; exact hres.trans (rd_lc hk0 h58 hq1)
            have hW : pM G (HWl G ad (rdx x v4 lt4 wd4) ++ ((a, .inr (4, [.ref an, .ref aw, .ref al, .int (nI t.1.length), .int (nI (t.2.2.length + 1))])) :: (an, .inl (G.2.2.1 4, 8, .inr (.inr (.inr (.inr nf))))) :: (aw, .inl (G.2.2.1 0, 8, .inl wf)) :: (al, .inl (G.2.2.1 10, 10, .inr (.inr (.inr (.inr (va_up lf t.2.2.length (some la))))))) :: (((T ++ N) ++ N2) ++ N4))) s _ _ := hW
            rw [← el1, ← el2] at hW
            have hW : pM G (HWl G ad (rdx x v4 lt4 wd4) ++ ((a, .inr (4, [.ref an, .ref aw, .ref al, .int (nI t2.1.length), .int (nI t2.2.2.length)])) :: (an, .inl (G.2.2.1 4, 8, .inr (.inr (.inr (.inr nf))))) :: (aw, .inl (G.2.2.1 0, 8, .inl wf)) :: (al, .inl (G.2.2.1 10, 10, .inr (.inr (.inr (.inr (va_up lf t.2.2.length (some la))))))) :: (T ++ ((N ++ N2) ++ N4)))) s H locs := by simpa only [List.append_assoc, List.cons_append] using hW
            refine lv_aload_n hx hb dX1_read_107 rfl (lv_at hl 2 rfl) ?_
            refine gH2_token hF hW q188 (v := nI (tkK (x.2.1 0) n (tkE (x.2.1 0) n (tkE (x.2.1 0) n (tkE (x.2.1 0) n e))))) (q16) dX1_read_108 ?_
            refine lv_bipush (v := 59) hx hb dX1_read_111 (by decide) ?_
            refine lv_icmp_ne (tgt := 120) hx hb dX1_read_113 (by decide) (fun c_113 => ?_) (fun c_113 => ?_)
            · have h59 : ¬ tkK (x.2.1 0) n (tkE (x.2.1 0) n (tkE (x.2.1 0) n (tkE (x.2.1 0) n e))) = 59 := fun z => c_113 (by rw [z]; rfl)
              refine lv_iconst (v := 0) hx hb dX1_read_120 (by decide) ?_
              refine lv_istore (lv' := [(6, .int 0), (8, .int (nI (skA (x.2.1 0) n e))), (7, .ref a0), (0, .ref (ad 2)), (1, .int (nI n)), (2, .ref (ad 0)), (3, .ref a), (4, .int (nI mp)), (5, .int (nI ml))]) hx hb dX1_read_121 hl (by decide) rfl (fun ls hl => ?_)
              refine lv_iload hx hb dX1_read_123 (lv_at hl 0 rfl) ?_
              refine lv_if_eq (tgt := 132) hx hb dX1_read_125 (by decide) (fun c_125 => ?_) (fun c_125 => absurd c_125 (by decide))
              refine lv_goto (tgt := 8) hx hb dX1_read_132 (by decide) ?_
              refine lv_iload hx hb dX1_read_8 (lv_at hl 0 rfl) ?_
              refine lv_if_eq (tgt := 135) hx hb dX1_read_10 (by decide) (fun c_10 => ?_) (fun c_10 => absurd c_10 (by decide))
              refine lv_aload_n hx hb dX1_read_135 rfl (lv_at hl 3 rfl) ?_
              refine gH2_token hF hW q188 (v := nI (tkK (x.2.1 0) n (tkE (x.2.1 0) n (tkE (x.2.1 0) n (tkE (x.2.1 0) n e))))) (q16) dX1_read_136 ?_
              refine lv_if_eq (tgt := 152) hx hb dX1_read_139 (by decide) (fun c_139 => ?_) (fun c_139 => ?_)
              · have h0 : tkK (x.2.1 0) n (tkE (x.2.1 0) n (tkE (x.2.1 0) n (tkE (x.2.1 0) n e))) = 0 := eq_eq (b := 0) c_139 (by have := tkK_lt (x.2.1 0) n (tkE (x.2.1 0) n (tkE (x.2.1 0) n (tkE (x.2.1 0) n e))); omega)
                refine lv_aload_n hx hb dX1_read_152 rfl (lv_at hl 6 rfl) ?_
                exact re_r hF hRt (Or.inl ⟨_, rfl⟩) hLk hQ (by omega) (by omega) dX1_read_153 (t2, nf, va_up lf t.2.2.length (some la), wf, v4, lt4, wd4, ((N ++ N2) ++ N4)) (⟨hres9.trans (by unfold rdC; rw [if_neg h59, if_pos h0]), hok9, ht9⟩) hW
              · have h0 : ¬ tkK (x.2.1 0) n (tkE (x.2.1 0) n (tkE (x.2.1 0) n (tkE (x.2.1 0) n e))) = 0 := fun z => c_139 (by rw [z]; rfl)
                refine lv_aload_n hx hb dX1_read_142 rfl (lv_at hl 3 rfl) ?_
                refine lv_iconst (v := 1) hx hb dX1_read_143 (by decide) ?_
                refine lv_aload_n hx hb dX1_read_144 rfl (lv_at hl 3 rfl) ?_
                refine gH2_at hF hW q189 (v := nI (skA (x.2.1 0) n (tkE (x.2.1 0) n (tkE (x.2.1 0) n (tkE (x.2.1 0) n e))))) (q17) dX1_read_145 ?_
                refine cl_q (ru_V (As := [.int 1, .int (nI (skA (x.2.1 0) n (tkE (x.2.1 0) n (tkE (x.2.1 0) n (tkE (x.2.1 0) n e)))))]) (rest := []) hF (mX1_fail l G ad x ((a, .inr (4, [.ref an, .ref aw, .ref al, .int (nI t2.1.length), .int (nI t2.2.2.length)])) :: (an, .inl (G.2.2.1 4, 8, .inr (.inr (.inr (.inr nf))))) :: (aw, .inl (G.2.2.1 0, 8, .inl wf)) :: (al, .inl (G.2.2.1 10, 10, .inr (.inr (.inr (.inr (va_up lf t.2.2.length (some la))))))) :: (T ++ ((N ++ N2) ++ N4))) v4 lt4 wd4 1 (nI (skA (x.2.1 0) n (tkE (x.2.1 0) n (tkE (x.2.1 0) n (tkE (x.2.1 0) n e)))))) (cwV 2 hts (lw_V q583 q585 qs13 q60 q586) rfl rfl rfl (by decide +kernel) ⟨lb hR1 rfl, lb hR4 rfl⟩) hW (List.mem_of_getElem? (i := 2) rfl) (ci := 1) rfl rfl rfl hl.1 rfl (lv_room (Nat.le_of_ble_eq_true rfl)) dX1_read_148 ⟨by omega, by omega⟩) hW (fun r_7 u_8 H locs h_9 hW => ?_)
                obtain ⟨rfl, rfl⟩ : r_7 = some (ad 4) ∧ u_8 = (va_up (va_up (va_up v4 18 4) 19 1) 20 (nI (skA (x.2.1 0) n (tkE (x.2.1 0) n (tkE (x.2.1 0) n (tkE (x.2.1 0) n e)))))) := h_9
                have hW : pM G (HWl G ad (rdx x (va_up (va_up (va_up v4 18 4) 19 1) 20 (nI (skA (x.2.1 0) n (tkE (x.2.1 0) n (tkE (x.2.1 0) n (tkE (x.2.1 0) n e)))))) lt4 wd4) ++ ((a, .inr (4, [.ref an, .ref aw, .ref al, .int (nI t2.1.length), .int (nI t2.2.2.length)])) :: (an, .inl (G.2.2.1 4, 8, .inr (.inr (.inr (.inr nf))))) :: (aw, .inl (G.2.2.1 0, 8, .inl wf)) :: (al, .inl (G.2.2.1 10, 10, .inr (.inr (.inr (.inr (va_up lf t.2.2.length (some la))))))) :: (T ++ ((N ++ N2) ++ N4)))) s _ _ := hW
                refine lv_eqv (y := .ref (ad 4)) rfl ?_
                refine vx_athrow hx hb dX1_read_151 ?_
                exact ox htab hLk hQx (by omega) (by omega) ((va_up (va_up (va_up v4 18 4) 19 1) 20 (nI (skA (x.2.1 0) n (tkE (x.2.1 0) n (tkE (x.2.1 0) n (tkE (x.2.1 0) n e)))))), lt4, wd4, ((N ++ N2) ++ N4)) (⟨1, skA (x.2.1 0) n (tkE (x.2.1 0) n (tkE (x.2.1 0) n (tkE (x.2.1 0) n e))), hres9.trans (by unfold rdC; rw [if_neg h59, if_neg h0]), rfl, rfl, rfl⟩) (by have hW := hW.drop4; simpa only [List.append_assoc, List.append_nil, List.cons_append, List.nil_append] using hW) (List.mem_of_getElem? (i := 4) rfl) (ci := 2) rfl
            · have h59 : tkK (x.2.1 0) n (tkE (x.2.1 0) n (tkE (x.2.1 0) n (tkE (x.2.1 0) n e))) = 59 := eq_eq (b := 59) c_113 (by have := tkK_lt (x.2.1 0) n (tkE (x.2.1 0) n (tkE (x.2.1 0) n (tkE (x.2.1 0) n e))); omega)
              refine lv_iconst (v := 1) hx hb dX1_read_116 (by decide) ?_
              refine lv_goto (tgt := 121) hx hb dX1_read_117 (by decide) ?_
              refine lv_istore (lv' := [(6, .int 1), (8, .int (nI (skA (x.2.1 0) n e))), (7, .ref a0), (0, .ref (ad 2)), (1, .int (nI n)), (2, .ref (ad 0)), (3, .ref a), (4, .int (nI mp)), (5, .int (nI ml))]) hx hb dX1_read_121 hl (by decide) rfl (fun ls hl => ?_)
              refine lv_iload hx hb dX1_read_123 (lv_at hl 0 rfl) ?_
              refine lv_if_eq (tgt := 132) hx hb dX1_read_125 (by decide) (fun c_125 => absurd c_125 (by decide)) (fun c_125 => ?_)
              refine lv_aload_n hx hb dX1_read_128 rfl (lv_at hl 3 rfl) ?_
              refine cl_v (ru_V (As := []) (rest := []) hF (mX1_next l G ad x ((a, .inr (4, [.ref an, .ref aw, .ref al, .int (nI t2.1.length), .int (nI t2.2.2.length)])) :: (an, .inl (G.2.2.1 4, 8, .inr (.inr (.inr (.inr nf))))) :: (aw, .inl (G.2.2.1 0, 8, .inl wf)) :: (al, .inl (G.2.2.1 10, 10, .inr (.inr (.inr (.inr (va_up lf t.2.2.length (some la))))))) :: (T ++ ((N ++ N2) ++ N4))) v4 lt4 wd4 (tkE (x.2.1 0) n (tkE (x.2.1 0) n (tkE (x.2.1 0) n (tkE (x.2.1 0) n e)))) n hn q14 q15 (tkE_le (tkE_le (tkE_le (tkE_le he))))) (cwV 0 hts (lw_V q382 q384 qs5 q60 q385) rfl rfl rfl (by decide +kernel) ⟨lb hR1 rfl, lb hR4 rfl⟩) hW (List.mem_of_getElem? (i := 2) rfl) (ci := 1) rfl rfl rfl hl.1 rfl (lv_room (Nat.le_of_ble_eq_true rfl)) dX1_read_129 ⟨by omega, by omega⟩) hW (fun u_ H locs h_ hW => ?_)
              obtain ⟨v9, lt9, wd9, N9⟩ := u_
              obtain ⟨y14, y15, y16, y17, yw⟩ := h_
              have hW : pM G (HWl G ad (rdx x v9 lt9 wd9) ++ ((a, .inr (4, [.ref an, .ref aw, .ref al, .int (nI t2.1.length), .int (nI t2.2.2.length)])) :: (an, .inl (G.2.2.1 4, 8, .inr (.inr (.inr (.inr nf))))) :: (aw, .inl (G.2.2.1 0, 8, .inl wf)) :: (al, .inl (G.2.2.1 10, 10, .inr (.inr (.inr (.inr (va_up lf t.2.2.length (some la))))))) :: ((T ++ ((N ++ N2) ++ N4)) ++ N9))) s _ _ := hW
              have hW : pM G (HWl G ad (rdx x v9 lt9 wd9) ++ ((a, .inr (4, [.ref an, .ref aw, .ref al, .int (nI t2.1.length), .int (nI t2.2.2.length)])) :: (an, .inl (G.2.2.1 4, 8, .inr (.inr (.inr (.inr nf))))) :: (aw, .inl (G.2.2.1 0, 8, .inl wf)) :: (al, .inl (G.2.2.1 10, 10, .inr (.inr (.inr (.inr (va_up lf t.2.2.length (some la))))))) :: (T ++ (((N ++ N2) ++ N4) ++ N9)))) s H locs := by simpa only [List.append_assoc, List.cons_append] using hW
              have hle3 : (tkE (x.2.1 0) n (tkE (x.2.1 0) n (tkE (x.2.1 0) n e))) ≤ n := tkE_le (tkE_le (tkE_le he))
              have hle4 : tkE (x.2.1 0) n (tkE (x.2.1 0) n (tkE (x.2.1 0) n (tkE (x.2.1 0) n e))) ≤ n := tkE_le hle3
              have hgt9 := tkE_gt (f := (x.2.1 0)) (n := n) (e := (tkE (x.2.1 0) n (tkE (x.2.1 0) n (tkE (x.2.1 0) n e)))) (by rw [h59]; decide)
              have hge9 := Nat.le_trans (tkE_ge (f := (x.2.1 0)) (n := n) (e := e)) (Nat.le_trans (tkE_ge (f := (x.2.1 0)) (n := n) (e := (tkE (x.2.1 0) n e))) (tkE_ge (f := (x.2.1 0)) (n := n) (e := (tkE (x.2.1 0) n (tkE (x.2.1 0) n e)))))
              refine lv_goto (tgt := 8) hx hb dX1_read_132 (by decide) ?_
              exact W.widen (by omega) (by omega) (ih t2 nf (va_up lf t.2.2.length (some la)) wf (tkE (x.2.1 0) n (tkE (x.2.1 0) n (tkE (x.2.1 0) n (tkE (x.2.1 0) n e)))) g v9 lt9 wd9 (((N ++ N2) ++ N4) ++ N9) H locs ls (fuel_ok hm hge9 hgt9 hle4) (hle4) (fuel_ok hg hge9 hgt9 hle4) (hres9.trans (if_pos h59)) ((ht9).mono (fun q h => by rw [← List.append_assoc]; exact ms_l h)) (hok9) (y14) (y15) (y16) (y17) (fun z => by obtain ⟨q, q1, q2⟩ := yw z; exact ⟨q, q1, q2.mono (fun _ h => by rw [← List.append_assoc]; exact ms_r h)⟩) hW (lv_sub hl [3, 4, 5, 6, 7, 8, 0] rfl))
        · have h58 : tkK (x.2.1 0) n (tkE (x.2.1 0) n e) = 58 := eq_eq (b := 58) c_35 (by have := tkK_lt (x.2.1 0) n (tkE (x.2.1 0) n e); omega)
          refine lv_aload_n hx hb dX1_read_38 rfl (lv_at hl 5 rfl) ?_
          refine lv_aload hx hb dX1_read_39 (lv_at hl 1 rfl) ?_
          have ht2 : HTc G ((T ++ N) ++ N2) t nf lf wf := (ht.mono (fun q h => (ms_l h)))
          have hs02 : HS G ((T ++ N) ++ N2) a0 (tkW (x.2.1 0) n e) := (hs0.mono (fun q h => (ms_l h)))
          refine cl_i (ru_V (As := [.ref a0]) (rest := []) hF (mX10_partOf l G (HWl G ad (rdx x v2 lt2 wd2)) ((T ++ N) ++ N2) a an aw al t.1.length t.2.2.length nf lf wf (fun k => t.1.getD k []) (tkW (x.2.1 0) n e) a0 ht2.1 hs02 (Nat.le_trans hok.2.2.1 hmp)) (cwV 1 hts (lw_V q592 q593 q594 q77 q595) rfl rfl rfl (by decide +kernel) ⟨lb hR1 rfl, lb hR4 rfl⟩) hW (ms_r (List.mem_of_getElem? (i := 0) rfl)) (ci := 4) rfl rfl rfl hl.1 rfl (lv_room (Nat.le_of_ble_eq_true rfl)) dX1_read_41 ⟨by omega, by omega⟩) hW (fun r_ u_ H locs h_ hW => ?_)
          have hW : pM G (HWl G ad (rdx x v2 lt2 wd2) ++ ((a, .inr (4, [.ref an, .ref aw, .ref al, .int (nI t.1.length), .int (nI t.2.2.length)])) :: (an, .inl (G.2.2.1 4, 8, .inr (.inr (.inr (.inr nf))))) :: (aw, .inl (G.2.2.1 0, 8, .inl wf)) :: (al, .inl (G.2.2.1 10, 10, .inr (.inr (.inr (.inr lf))))) :: ((T ++ N) ++ N2))) s _ _ := hW
          cases hp1 : pix t.1 (tkW (x.2.1 0) n e) with
          | none =>
            obtain rfl : r_ = -1 := pix_r1 hok.1 hp1 h_
            refine lv_iconst (v := (-1)) hx hb dX1_read_44 (by decide) ?_
            refine lv_icmp_eq (tgt := 56) hx hb dX1_read_45 (by decide) (fun c_45 => ?_) (fun c_45 => absurd c_45 (by decide))
            refine lv_aload_n hx hb dX1_read_56 rfl (lv_at hl 2 rfl) ?_
            refine cl_v (ru_V (As := []) (rest := []) hF (mX1_next l G ad x ((a, .inr (4, [.ref an, .ref aw, .ref al, .int (nI t.1.length), .int (nI t.2.2.length)])) :: (an, .inl (G.2.2.1 4, 8, .inr (.inr (.inr (.inr nf))))) :: (aw, .inl (G.2.2.1 0, 8, .inl wf)) :: (al, .inl (G.2.2.1 10, 10, .inr (.inr (.inr (.inr lf))))) :: ((T ++ N) ++ N2)) v2 lt2 wd2 (tkE (x.2.1 0) n (tkE (x.2.1 0) n e)) n hn x14 x15 (tkE_le (tkE_le he))) (cwV 0 hts (lw_V q382 q384 qs5 q60 q385) rfl rfl rfl (by decide +kernel) ⟨lb hR1 rfl, lb hR4 rfl⟩) hW (List.mem_of_getElem? (i := 2) rfl) (ci := 1) rfl rfl rfl hl.1 rfl (lv_room (Nat.le_of_ble_eq_true rfl)) dX1_read_57 ⟨by omega, by omega⟩) hW (fun u_ H locs h_ hW => ?_)
            obtain ⟨v3, lt3, wd3, N3⟩ := u_
            obtain ⟨w14, w15, w16, w17, ww⟩ := h_
            have hW : pM G (HWl G ad (rdx x v3 lt3 wd3) ++ ((a, .inr (4, [.ref an, .ref aw, .ref al, .int (nI t.1.length), .int (nI t.2.2.length)])) :: (an, .inl (G.2.2.1 4, 8, .inr (.inr (.inr (.inr nf))))) :: (aw, .inl (G.2.2.1 0, 8, .inl wf)) :: (al, .inl (G.2.2.1 10, 10, .inr (.inr (.inr (.inr lf))))) :: (((T ++ N) ++ N2) ++ N3))) s _ _ := hW
            refine lv_aload_n hx hb dX1_read_60 rfl (lv_at hl 2 rfl) ?_
            refine lv_aload_n hx hb dX1_read_61 rfl (lv_at hl 4 rfl) ?_
            by_cases hk2 : tkK (x.2.1 0) n (tkE (x.2.1 0) n (tkE (x.2.1 0) n e)) = 2
            · obtain ⟨a2, hwd2, hs2⟩ := ww hk2
              cases hp2 : pix wds (tkW (x.2.1 0) n (tkE (x.2.1 0) n (tkE (x.2.1 0) n e))) with
              | none =>
                refine cx_i (rx_V (As := [.ref (ad 0)]) (rest := []) hF (mX1_wordOf_no2 l G ad x ((a, .inr (4, [.ref an, .ref aw, .ref al, .int (nI t.1.length), .int (nI t.2.2.length)])) :: (an, .inl (G.2.2.1 4, 8, .inr (.inr (.inr (.inr nf))))) :: (aw, .inl (G.2.2.1 0, 8, .inl wf)) :: (al, .inl (G.2.2.1 10, 10, .inr (.inr (.inr (.inr lf))))) :: (((T ++ N) ++ N2) ++ N3)) v3 lt3 wd3 a2 (skA (x.2.1 0) n (tkE (x.2.1 0) n (tkE (x.2.1 0) n e))) (tkW (x.2.1 0) n (tkE (x.2.1 0) n (tkE (x.2.1 0) n e))) (Eq.trans w16 (by rw [hk2]; rfl)) hwd2 (hs2.mono (fun q h => (List.mem_cons_of_mem _ (List.mem_cons_of_mem _ (List.mem_cons_of_mem _ (List.mem_cons_of_mem _ (ms_r h))))))) w17 wds (fun k hk => by obtain ⟨sa, q1, q2⟩ := hw k hk; exact ⟨sa, q1, q2.mono (fun q h => (List.mem_cons_of_mem _ (List.mem_cons_of_mem _ (List.mem_cons_of_mem _ (List.mem_cons_of_mem _ (ms_l (ms_l (ms_l h))))))))⟩) hnw h1 hp2 hndw) (cwV 1 hts (lw_V q597 q599 qs14 q60 q600) rfl rfl rfl (by decide +kernel) ⟨lb hR1 rfl, lb hR4 rfl⟩) hW (List.mem_of_getElem? (i := 2) rfl) (ci := 1) rfl rfl rfl hl.1 rfl (lv_room (Nat.le_of_ble_eq_true rfl)) dX1_read_62 ⟨by omega, by omega⟩) hW (fun u_11 H locs h_12 hW => ?_) (fun r_10 u_11 H locs h_12 hW => ?_)
                · exact ox htab hLk hQx (by omega) (by omega) (u_11.1, u_11.2.1, u_11.2.2.1, ((N ++ N2) ++ N3) ++ u_11.2.2.2) (⟨2, skA (x.2.1 0) n (tkE (x.2.1 0) n (tkE (x.2.1 0) n e)), hres.trans (rd_p hk0 h58 (by unfold prtF; rw [hp1]; dsimp only; rw [if_neg (fun z => z hk2), hp2])), h_12⟩) (by have hW := pM.drop4 (Y := (((T ++ N) ++ N2) ++ N3) ++ u_11.2.2.2) hW; simpa only [List.append_assoc, List.append_nil, List.cons_append, List.nil_append] using hW) (List.mem_of_getElem? (i := 4) rfl) (ci := 2) rfl
                · exact h_12.elim
              | some pw =>
                refine cl_i (ru_V (As := [.ref (ad 0)]) (rest := []) hF (mX1_wordOf_ok l G ad x ((a, .inr (4, [.ref an, .ref aw, .ref al, .int (nI t.1.length), .int (nI t.2.2.length)])) :: (an, .inl (G.2.2.1 4, 8, .inr (.inr (.inr (.inr nf))))) :: (aw, .inl (G.2.2.1 0, 8, .inl wf)) :: (al, .inl (G.2.2.1 10, 10, .inr (.inr (.inr (.inr lf))))) :: (((T ++ N) ++ N2) ++ N3)) v3 lt3 wd3 a2 (tkE (x.2.1 0) n (tkE (x.2.1 0) n (tkE (x.2.1 0) n e))) n pw (tkW (x.2.1 0) n (tkE (x.2.1 0) n (tkE (x.2.1 0) n e))) (Eq.trans w16 (by rw [hk2]; rfl)) hwd2 (hs2.mono (fun q h => (List.mem_cons_of_mem _ (List.mem_cons_of_mem _ (List.mem_cons_of_mem _ (List.mem_cons_of_mem _ (ms_r h))))))) hn w14 w15 (tkE_le (tkE_le (tkE_le he))) wds (fun k hk => by obtain ⟨sa, q1, q2⟩ := hw k hk; exact ⟨sa, q1, q2.mono (fun q h => (List.mem_cons_of_mem _ (List.mem_cons_of_mem _ (List.mem_cons_of_mem _ (List.mem_cons_of_mem _ (ms_l (ms_l (ms_l h))))))))⟩) hnw h1 hp2 hndw) (cwV 1 hts (lw_V q597 q599 qs14 q60 q600) rfl rfl rfl (by decide +kernel) ⟨lb hR1 rfl, lb hR4 rfl⟩) hW (List.mem_of_getElem? (i := 2) rfl) (ci := 1) rfl rfl rfl hl.1 rfl (lv_room (Nat.le_of_ble_eq_true rfl)) dX1_read_62 ⟨by omega, by omega⟩) hW (fun r_ u_ H locs h_ hW => ?_)
                obtain ⟨v4, lt4, wd4, N4⟩ := u_
                obtain ⟨rfl, q14, q15, q16, q17, qw⟩ := h_
                have hW : pM G (HWl G ad (rdx x v4 lt4 wd4) ++ ((a, .inr (4, [.ref an, .ref aw, .ref al, .int (nI t.1.length), .int (nI t.2.2.length)])) :: (an, .inl (G.2.2.1 4, 8, .inr (.inr (.inr (.inr nf))))) :: (aw, .inl (G.2.2.1 0, 8, .inl wf)) :: (al, .inl (G.2.2.1 10, 10, .inr (.inr (.inr (.inr lf))))) :: ((((T ++ N) ++ N2) ++ N3) ++ N4))) s _ _ := hW
                refine lv_istore (lv' := [(9, .int (nI pw)), (8, .int (nI (skA (x.2.1 0) n e))), (7, .ref a0), (0, .ref (ad 2)), (1, .int (nI n)), (2, .ref (ad 0)), (3, .ref a), (4, .int (nI mp)), (5, .int (nI ml)), (6, .int 1)]) hx hb dX1_read_65 hl (by decide) rfl (fun ls hl => ?_)
                refine lv_aload_n hx hb dX1_read_67 rfl (lv_at hl 6 rfl) ?_
                refine gt hF hW (ms_r (List.mem_of_getElem? (i := 0) rfl)) (ci := 4) rfl in_X10 3 (by decide) q554 rfl (v := .int (nI t.1.length)) rfl dX1_read_68 ?_
                refine lv_iload hx hb dX1_read_71 (lv_at hl 7 rfl) ?_
                refine lv_icmp_ne (tgt := 84) hx hb dX1_read_73 (by decide) (fun c_73 => ?_) (fun c_73 => ?_)
                · have hmp2 : ¬ t.1.length = mp := fun z => c_73 (by rw [z])
                  refine lv_aload_n hx hb dX1_read_84 rfl (lv_at hl 6 rfl) ?_
                  refine lv_aload hx hb dX1_read_85 (lv_at hl 2 rfl) ?_
                  refine lv_iload hx hb dX1_read_87 (lv_at hl 0 rfl) ?_
                  have hs04 : HS G ((((T ++ N) ++ N2) ++ N3) ++ N4) a0 (tkW (x.2.1 0) n e) := (hs0.mono (fun q h => (ms_l (ms_l (ms_l h)))))
                  refine cl_v (ru_V (As := [.ref a0, .int (nI pw)]) (rest := []) hF (mX10_puts l G (HWl G ad (rdx x v4 lt4 wd4)) ((((T ++ N) ++ N2) ++ N3) ++ N4) a an aw al t.1.length t.2.2.length nf lf wf a0 (tkW (x.2.1 0) n e) (nI pw) hs04 (by have := hok.2.2.1; omega)) (cwV 2 hts (lw_V q602 q603 q604 q77 q605) rfl rfl rfl (by decide +kernel) ⟨lb hR1 rfl, lb hR4 rfl⟩) hW (ms_r (List.mem_of_getElem? (i := 0) rfl)) (ci := 4) rfl rfl rfl hl.1 rfl (lv_room (Nat.le_of_ble_eq_true rfl)) dX1_read_89 ⟨by omega, by omega⟩) hW (fun u_ H locs h_ hW => ?_)
                  obtain ⟨t2, et2⟩ : ∃ z : Tx, z = (t.1 ++ [tkW (x.2.1 0) n e], t.2.1 ++ [pw], t.2.2) := ⟨_, rfl⟩
                  have el1 : t2.1.length = t.1.length + 1 := by rw [et2]; exact List.length_append
                  have el2 : t2.2.2.length = t.2.2.length := by rw [et2]
                  have ht9 : HTc G (T ++ (((N ++ N2) ++ N3) ++ N4)) t2 (va_up nf t.1.length (some a0)) lf (va_up wf t.1.length (nI pw)) := by rw [et2]; exact HTc.part (ht.mono (fun q h => by simpa only [List.append_assoc] using (ms_l (ms_l (ms_l h))))) hok.2.1 (hs0.mono (fun q h => by simpa only [List.append_assoc] using (ms_l (ms_l (ms_l h)))))
                  have hok9 : TxOk wds.length mp ml t2 := by rw [et2]; exact hok.part hp1 (pix_some hp2).1 hmp2
                  have hres9 : rdL (x.2.1 0) n wds mp ml (n + 1) 0 t0 = rdC (x.2.1 0) n wds mp ml g (tkE (x.2.1 0) n (tkE (x.2.1 0) n (tkE (x.2.1 0) n e))) t2 := by rw [et2]; exact hres.trans (rd_pc hk0 h58 (by unfold prtF; rw [hp1]; dsimp only; rw [if_neg (fun z => z hk2), hp2]; dsimp only; rw [if_neg hmp2]))
                  rw [← el1, ← el2] at hW
                  have hW : pM G (HWl G ad (rdx x v4 lt4 wd4) ++ ((a, .inr (4, [.ref an, .ref aw, .ref al, .int (nI t2.1.length), .int (nI t2.2.2.length)])) :: (an, .inl (G.2.2.1 4, 8, .inr (.inr (.inr (.inr (va_up nf t.1.length (some a0))))))) :: (aw, .inl (G.2.2.1 0, 8, .inl (va_up wf t.1.length (nI pw)))) :: (al, .inl (G.2.2.1 10, 10, .inr (.inr (.inr (.inr lf))))) :: (T ++ (((N ++ N2) ++ N3) ++ N4)))) s H locs := by simpa only [List.append_assoc, List.cons_append] using hW
                  refine lv_goto (tgt := 107) hx hb dX1_read_92 (by decide) ?_
                  refine lv_aload_n hx hb dX1_read_107 rfl (lv_at hl 3 rfl) ?_
                  refine gH2_token hF hW q188 (v := nI (tkK (x.2.1 0) n (tkE (x.2.1 0) n (tkE (x.2.1 0) n (tkE (x.2.1 0) n e))))) (q16) dX1_read_108 ?_
                  refine lv_bipush (v := 59) hx hb dX1_read_111 (by decide) ?_
                  refine lv_icmp_ne (tgt := 120) hx hb dX1_read_113 (by decide) (fun c_113 => ?_) (fun c_113 => ?_)
                  · have h59 : ¬ tkK (x.2.1 0) n (tkE (x.2.1 0) n (tkE (x.2.1 0) n (tkE (x.2.1 0) n e))) = 59 := fun z => c_113 (by rw [z]; rfl)
                    refine lv_iconst (v := 0) hx hb dX1_read_120 (by decide) ?_
                    refine lv_istore (lv' := [(6, .int 0), (9, .int (nI pw)), (8, .int (nI (skA (x.2.1 0) n e))), (7, .ref a0), (0, .ref (ad 2)), (1, .int (nI n)), (2, .ref (ad 0)), (3, .ref a), (4, .int (nI mp)), (5, .int (nI ml))]) hx hb dX1_read_121 hl (by decide) rfl (fun ls hl => ?_)
                    refine lv_iload hx hb dX1_read_123 (lv_at hl 0 rfl) ?_
                    refine lv_if_eq (tgt := 132) hx hb dX1_read_125 (by decide) (fun c_125 => ?_) (fun c_125 => absurd c_125 (by decide))
                    refine lv_goto (tgt := 8) hx hb dX1_read_132 (by decide) ?_
                    refine lv_iload hx hb dX1_read_8 (lv_at hl 0 rfl) ?_
                    refine lv_if_eq (tgt := 135) hx hb dX1_read_10 (by decide) (fun c_10 => ?_) (fun c_10 => absurd c_10 (by decide))
                    refine lv_aload_n hx hb dX1_read_135 rfl (lv_at hl 4 rfl) ?_
                    refine gH2_token hF hW q188 (v := nI (tkK (x.2.1 0) n (tkE (x.2.1 0) n (tkE (x.2.1 0) n (tkE (x.2.1 0) n e))))) (q16) dX1_read_136 ?_
                    refine lv_if_eq (tgt := 152) hx hb dX1_read_139 (by decide) (fun c_139 => ?_) (fun c_139 => ?_)
                    · have h0 : tkK (x.2.1 0) n (tkE (x.2.1 0) n (tkE (x.2.1 0) n (tkE (x.2.1 0) n e))) = 0 := eq_eq (b := 0) c_139 (by have := tkK_lt (x.2.1 0) n (tkE (x.2.1 0) n (tkE (x.2.1 0) n (tkE (x.2.1 0) n e))); omega)
                      refine lv_aload_n hx hb dX1_read_152 rfl (lv_at hl 7 rfl) ?_
                      exact re_r hF hRt (Or.inl ⟨_, rfl⟩) hLk hQ (by omega) (by omega) dX1_read_153 (t2, va_up nf t.1.length (some a0), lf, va_up wf t.1.length (nI pw), v4, lt4, wd4, (((N ++ N2) ++ N3) ++ N4)) (⟨hres9.trans (by unfold rdC; rw [if_neg h59, if_pos h0]), hok9, ht9⟩) hW
                    · have h0 : ¬ tkK (x.2.1 0) n (tkE (x.2.1 0) n (tkE (x.2.1 0) n (tkE (x.2.1 0) n e))) = 0 := fun z => c_139 (by rw [z]; rfl)
                      refine lv_aload_n hx hb dX1_read_142 rfl (lv_at hl 4 rfl) ?_
                      refine lv_iconst (v := 1) hx hb dX1_read_143 (by decide) ?_
                      refine lv_aload_n hx hb dX1_read_144 rfl (lv_at hl 4 rfl) ?_
                      refine gH2_at hF hW q189 (v := nI (skA (x.2.1 0) n (tkE (x.2.1 0) n (tkE (x.2.1 0) n (tkE (x.2.1 0) n e))))) (q17) dX1_read_145 ?_
                      refine cl_q (ru_V (As := [.int 1, .int (nI (skA (x.2.1 0) n (tkE (x.2.1 0) n (tkE (x.2.1 0) n (tkE (x.2.1 0) n e)))))]) (rest := []) hF (mX1_fail l G ad x ((a, .inr (4, [.ref an, .ref aw, .ref al, .int (nI t2.1.length), .int (nI t2.2.2.length)])) :: (an, .inl (G.2.2.1 4, 8, .inr (.inr (.inr (.inr (va_up nf t.1.length (some a0))))))) :: (aw, .inl (G.2.2.1 0, 8, .inl (va_up wf t.1.length (nI pw)))) :: (al, .inl (G.2.2.1 10, 10, .inr (.inr (.inr (.inr lf))))) :: (T ++ (((N ++ N2) ++ N3) ++ N4))) v4 lt4 wd4 1 (nI (skA (x.2.1 0) n (tkE (x.2.1 0) n (tkE (x.2.1 0) n (tkE (x.2.1 0) n e)))))) (cwV 2 hts (lw_V q583 q585 qs13 q60 q586) rfl rfl rfl (by decide +kernel) ⟨lb hR1 rfl, lb hR4 rfl⟩) hW (List.mem_of_getElem? (i := 2) rfl) (ci := 1) rfl rfl rfl hl.1 rfl (lv_room (Nat.le_of_ble_eq_true rfl)) dX1_read_148 ⟨by omega, by omega⟩) hW (fun r_13 u_14 H locs h_15 hW => ?_)
                      obtain ⟨rfl, rfl⟩ : r_13 = some (ad 4) ∧ u_14 = (va_up (va_up (va_up v4 18 4) 19 1) 20 (nI (skA (x.2.1 0) n (tkE (x.2.1 0) n (tkE (x.2.1 0) n (tkE (x.2.1 0) n e)))))) := h_15
                      have hW : pM G (HWl G ad (rdx x (va_up (va_up (va_up v4 18 4) 19 1) 20 (nI (skA (x.2.1 0) n (tkE (x.2.1 0) n (tkE (x.2.1 0) n (tkE (x.2.1 0) n e)))))) lt4 wd4) ++ ((a, .inr (4, [.ref an, .ref aw, .ref al, .int (nI t2.1.length), .int (nI t2.2.2.length)])) :: (an, .inl (G.2.2.1 4, 8, .inr (.inr (.inr (.inr (va_up nf t.1.length (some a0))))))) :: (aw, .inl (G.2.2.1 0, 8, .inl (va_up wf t.1.length (nI pw)))) :: (al, .inl (G.2.2.1 10, 10, .inr (.inr (.inr (.inr lf))))) :: (T ++ (((N ++ N2) ++ N3) ++ N4)))) s _ _ := hW
                      refine lv_eqv (y := .ref (ad 4)) rfl ?_
                      refine vx_athrow hx hb dX1_read_151 ?_
                      exact ox htab hLk hQx (by omega) (by omega) ((va_up (va_up (va_up v4 18 4) 19 1) 20 (nI (skA (x.2.1 0) n (tkE (x.2.1 0) n (tkE (x.2.1 0) n (tkE (x.2.1 0) n e)))))), lt4, wd4, (((N ++ N2) ++ N3) ++ N4)) (⟨1, skA (x.2.1 0) n (tkE (x.2.1 0) n (tkE (x.2.1 0) n (tkE (x.2.1 0) n e))), hres9.trans (by unfold rdC; rw [if_neg h59, if_neg h0]), rfl, rfl, rfl⟩) (by have hW := hW.drop4; simpa only [List.append_assoc, List.append_nil, List.cons_append, List.nil_append] using hW) (List.mem_of_getElem? (i := 4) rfl) (ci := 2) rfl
                  · have h59 : tkK (x.2.1 0) n (tkE (x.2.1 0) n (tkE (x.2.1 0) n (tkE (x.2.1 0) n e))) = 59 := eq_eq (b := 59) c_113 (by have := tkK_lt (x.2.1 0) n (tkE (x.2.1 0) n (tkE (x.2.1 0) n (tkE (x.2.1 0) n e))); omega)
                    refine lv_iconst (v := 1) hx hb dX1_read_116 (by decide) ?_
                    refine lv_goto (tgt := 121) hx hb dX1_read_117 (by decide) ?_
                    refine lv_istore (lv' := [(6, .int 1), (9, .int (nI pw)), (8, .int (nI (skA (x.2.1 0) n e))), (7, .ref a0), (0, .ref (ad 2)), (1, .int (nI n)), (2, .ref (ad 0)), (3, .ref a), (4, .int (nI mp)), (5, .int (nI ml))]) hx hb dX1_read_121 hl (by decide) rfl (fun ls hl => ?_)
                    refine lv_iload hx hb dX1_read_123 (lv_at hl 0 rfl) ?_
                    refine lv_if_eq (tgt := 132) hx hb dX1_read_125 (by decide) (fun c_125 => absurd c_125 (by decide)) (fun c_125 => ?_)
                    refine lv_aload_n hx hb dX1_read_128 rfl (lv_at hl 4 rfl) ?_
                    refine cl_v (ru_V (As := []) (rest := []) hF (mX1_next l G ad x ((a, .inr (4, [.ref an, .ref aw, .ref al, .int (nI t2.1.length), .int (nI t2.2.2.length)])) :: (an, .inl (G.2.2.1 4, 8, .inr (.inr (.inr (.inr (va_up nf t.1.length (some a0))))))) :: (aw, .inl (G.2.2.1 0, 8, .inl (va_up wf t.1.length (nI pw)))) :: (al, .inl (G.2.2.1 10, 10, .inr (.inr (.inr (.inr lf))))) :: (T ++ (((N ++ N2) ++ N3) ++ N4))) v4 lt4 wd4 (tkE (x.2.1 0) n (tkE (x.2.1 0) n (tkE (x.2.1 0) n (tkE (x.2.1 0) n e)))) n hn q14 q15 (tkE_le (tkE_le (tkE_le (tkE_le he))))) (cwV 0 hts (lw_V q382 q384 qs5 q60 q385) rfl rfl rfl (by decide +kernel) ⟨lb hR1 rfl, lb hR4 rfl⟩) hW (List.mem_of_getElem? (i := 2) rfl) (ci := 1) rfl rfl rfl hl.1 rfl (lv_room (Nat.le_of_ble_eq_true rfl)) dX1_read_129 ⟨by omega, by omega⟩) hW (fun u_ H locs h_ hW => ?_)
                    obtain ⟨v9, lt9, wd9, N9⟩ := u_
                    obtain ⟨y14, y15, y16, y17, yw⟩ := h_
                    have hW : pM G (HWl G ad (rdx x v9 lt9 wd9) ++ ((a, .inr (4, [.ref an, .ref aw, .ref al, .int (nI t2.1.length), .int (nI t2.2.2.length)])) :: (an, .inl (G.2.2.1 4, 8, .inr (.inr (.inr (.inr (va_up nf t.1.length (some a0))))))) :: (aw, .inl (G.2.2.1 0, 8, .inl (va_up wf t.1.length (nI pw)))) :: (al, .inl (G.2.2.1 10, 10, .inr (.inr (.inr (.inr lf))))) :: ((T ++ (((N ++ N2) ++ N3) ++ N4)) ++ N9))) s _ _ := hW
                    have hW : pM G (HWl G ad (rdx x v9 lt9 wd9) ++ ((a, .inr (4, [.ref an, .ref aw, .ref al, .int (nI t2.1.length), .int (nI t2.2.2.length)])) :: (an, .inl (G.2.2.1 4, 8, .inr (.inr (.inr (.inr (va_up nf t.1.length (some a0))))))) :: (aw, .inl (G.2.2.1 0, 8, .inl (va_up wf t.1.length (nI pw)))) :: (al, .inl (G.2.2.1 10, 10, .inr (.inr (.inr (.inr lf))))) :: (T ++ ((((N ++ N2) ++ N3) ++ N4) ++ N9)))) s H locs := by simpa only [List.append_assoc, List.cons_append] using hW
                    have hle3 : (tkE (x.2.1 0) n (tkE (x.2.1 0) n (tkE (x.2.1 0) n e))) ≤ n := tkE_le (tkE_le (tkE_le he))
                    have hle4 : tkE (x.2.1 0) n (tkE (x.2.1 0) n (tkE (x.2.1 0) n (tkE (x.2.1 0) n e))) ≤ n := tkE_le hle3
                    have hgt9 := tkE_gt (f := (x.2.1 0)) (n := n) (e := (tkE (x.2.1 0) n (tkE (x.2.1 0) n (tkE (x.2.1 0) n e)))) (by rw [h59]; decide)
                    have hge9 := Nat.le_trans (tkE_ge (f := (x.2.1 0)) (n := n) (e := e)) (Nat.le_trans (tkE_ge (f := (x.2.1 0)) (n := n) (e := (tkE (x.2.1 0) n e))) (tkE_ge (f := (x.2.1 0)) (n := n) (e := (tkE (x.2.1 0) n (tkE (x.2.1 0) n e)))))
                    refine lv_goto (tgt := 8) hx hb dX1_read_132 (by decide) ?_
                    exact W.widen (by omega) (by omega) (ih t2 (va_up nf t.1.length (some a0)) lf (va_up wf t.1.length (nI pw)) (tkE (x.2.1 0) n (tkE (x.2.1 0) n (tkE (x.2.1 0) n (tkE (x.2.1 0) n e)))) g v9 lt9 wd9 ((((N ++ N2) ++ N3) ++ N4) ++ N9) H locs ls (fuel_ok hm hge9 hgt9 hle4) (hle4) (fuel_ok hg hge9 hgt9 hle4) (hres9.trans (if_pos h59)) ((ht9).mono (fun q h => by rw [← List.append_assoc]; exact ms_l h)) (hok9) (y14) (y15) (y16) (y17) (fun z => by obtain ⟨q, q1, q2⟩ := yw z; exact ⟨q, q1, q2.mono (fun _ h => by rw [← List.append_assoc]; exact ms_r h)⟩) hW (lv_sub hl [4, 5, 6, 7, 8, 9, 0] rfl))
                · have hmp2 : t.1.length = mp := eq_eq c_73 (by have := hok.2.2.1; omega) (by omega)
                  refine lv_aload_n hx hb dX1_read_76 rfl (lv_at hl 3 rfl) ?_
                  refine lv_iconst (v := 4) hx hb dX1_read_77 (by decide) ?_
                  refine lv_iload hx hb dX1_read_78 (lv_at hl 1 rfl) ?_
                  refine cl_q (ru_V (As := [.int 4, .int (nI (skA (x.2.1 0) n e))]) (rest := []) hF (mX1_fail l G ad x ((a, .inr (4, [.ref an, .ref aw, .ref al, .int (nI t.1.length), .int (nI t.2.2.length)])) :: (an, .inl (G.2.2.1 4, 8, .inr (.inr (.inr (.inr nf))))) :: (aw, .inl (G.2.2.1 0, 8, .inl wf)) :: (al, .inl (G.2.2.1 10, 10, .inr (.inr (.inr (.inr lf))))) :: ((((T ++ N) ++ N2) ++ N3) ++ N4)) v4 lt4 wd4 4 (nI (skA (x.2.1 0) n e))) (cwV 2 hts (lw_V q583 q585 qs13 q60 q586) rfl rfl rfl (by decide +kernel) ⟨lb hR1 rfl, lb hR4 rfl⟩) hW (List.mem_of_getElem? (i := 2) rfl) (ci := 1) rfl rfl rfl hl.1 rfl (lv_room (Nat.le_of_ble_eq_true rfl)) dX1_read_80 ⟨by omega, by omega⟩) hW (fun r_16 u_17 H locs h_18 hW => ?_)
                  obtain ⟨rfl, rfl⟩ : r_16 = some (ad 4) ∧ u_17 = (va_up (va_up (va_up v4 18 4) 19 4) 20 (nI (skA (x.2.1 0) n e))) := h_18
                  have hW : pM G (HWl G ad (rdx x (va_up (va_up (va_up v4 18 4) 19 4) 20 (nI (skA (x.2.1 0) n e))) lt4 wd4) ++ ((a, .inr (4, [.ref an, .ref aw, .ref al, .int (nI t.1.length), .int (nI t.2.2.length)])) :: (an, .inl (G.2.2.1 4, 8, .inr (.inr (.inr (.inr nf))))) :: (aw, .inl (G.2.2.1 0, 8, .inl wf)) :: (al, .inl (G.2.2.1 10, 10, .inr (.inr (.inr (.inr lf))))) :: ((((T ++ N) ++ N2) ++ N3) ++ N4))) s _ _ := hW
                  refine lv_eqv (y := .ref (ad 4)) rfl ?_
                  refine vx_athrow hx hb dX1_read_83 ?_
                  exact ox htab hLk hQx (by omega) (by omega) ((va_up (va_up (va_up v4 18 4) 19 4) 20 (nI (skA (x.2.1 0) n e))), lt4, wd4, (((N ++ N2) ++ N3) ++ N4)) (⟨4, skA (x.2.1 0) n e, hres.trans (rd_p hk0 h58 (by unfold prtF; rw [hp1]; dsimp only; rw [if_neg (fun z => z hk2), hp2]; dsimp only; rw [if_pos hmp2])), rfl, rfl, rfl⟩) (by have hW := hW.drop4; simpa only [List.append_assoc, List.append_nil, List.cons_append, List.nil_append] using hW) (List.mem_of_getElem? (i := 4) rfl) (ci := 2) rfl
            · refine cx_i (rx_V (As := [.ref (ad 0)]) (rest := []) hF (mX1_wordOf_no1 l G ad x ((a, .inr (4, [.ref an, .ref aw, .ref al, .int (nI t.1.length), .int (nI t.2.2.length)])) :: (an, .inl (G.2.2.1 4, 8, .inr (.inr (.inr (.inr nf))))) :: (aw, .inl (G.2.2.1 0, 8, .inl wf)) :: (al, .inl (G.2.2.1 10, 10, .inr (.inr (.inr (.inr lf))))) :: (((T ++ N) ++ N2) ++ N3)) v3 lt3 wd3 (tkK (x.2.1 0) n (tkE (x.2.1 0) n (tkE (x.2.1 0) n e))) (skA (x.2.1 0) n (tkE (x.2.1 0) n (tkE (x.2.1 0) n e))) w16 hk2 (tkK_lt _ _ _) w17) (cwV 1 hts (lw_V q597 q599 qs14 q60 q600) rfl rfl rfl (by decide +kernel) ⟨lb hR1 rfl, lb hR4 rfl⟩) hW (List.mem_of_getElem? (i := 2) rfl) (ci := 1) rfl rfl rfl hl.1 rfl (lv_room (Nat.le_of_ble_eq_true rfl)) dX1_read_62 ⟨by omega, by omega⟩) hW (fun u_20 H locs h_21 hW => ?_) (fun r_19 u_20 H locs h_21 hW => ?_)
              · exact ox htab hLk hQx (by omega) (by omega) (u_20.1, u_20.2.1, u_20.2.2.1, ((N ++ N2) ++ N3) ++ u_20.2.2.2) (⟨1, skA (x.2.1 0) n (tkE (x.2.1 0) n (tkE (x.2.1 0) n e)), hres.trans (rd_p hk0 h58 (by unfold prtF; rw [hp1]; dsimp only; rw [if_pos hk2])), h_21⟩) (by have hW := pM.drop4 (Y := (((T ++ N) ++ N2) ++ N3) ++ u_20.2.2.2) hW; simpa only [List.append_assoc, List.append_nil, List.cons_append, List.nil_append] using hW) (List.mem_of_getElem? (i := 4) rfl) (ci := 2) rfl
              · exact h_21.elim
          | some pa =>
            obtain rfl : r_ = nI pa := pix_r2 hok.1 hp1 h_
            refine lv_iconst (v := (-1)) hx hb dX1_read_44 (by decide) ?_
            refine lv_icmp_eq (tgt := 56) hx hb dX1_read_45 (by decide) (fun c_45 => absurd c_45 (nI_ne_m1 (by have := (pix_some hp1).1; have := hok.2.2.1; omega))) (fun c_45 => ?_)
            refine lv_aload_n hx hb dX1_read_48 rfl (lv_at hl 2 rfl) ?_
            refine lv_iconst (v := 3) hx hb dX1_read_49 (by decide) ?_
            refine lv_iload hx hb dX1_read_50 (lv_at hl 0 rfl) ?_
            refine cl_q (ru_V (As := [.int 3, .int (nI (skA (x.2.1 0) n e))]) (rest := []) hF (mX1_fail l G ad x ((a, .inr (4, [.ref an, .ref aw, .ref al, .int (nI t.1.length), .int (nI t.2.2.length)])) :: (an, .inl (G.2.2.1 4, 8, .inr (.inr (.inr (.inr nf))))) :: (aw, .inl (G.2.2.1 0, 8, .inl wf)) :: (al, .inl (G.2.2.1 10, 10, .inr (.inr (.inr (.inr lf))))) :: ((T ++ N) ++ N2)) v2 lt2 wd2 3 (nI (skA (x.2.1 0) n e))) (cwV 2 hts (lw_V q583 q585 qs13 q60 q586) rfl rfl rfl (by decide +kernel) ⟨lb hR1 rfl, lb hR4 rfl⟩) hW (List.mem_of_getElem? (i := 2) rfl) (ci := 1) rfl rfl rfl hl.1 rfl (lv_room (Nat.le_of_ble_eq_true rfl)) dX1_read_52 ⟨by omega, by omega⟩) hW (fun r_22 u_23 H locs h_24 hW => ?_)
            obtain ⟨rfl, rfl⟩ : r_22 = some (ad 4) ∧ u_23 = (va_up (va_up (va_up v2 18 4) 19 3) 20 (nI (skA (x.2.1 0) n e))) := h_24
            have hW : pM G (HWl G ad (rdx x (va_up (va_up (va_up v2 18 4) 19 3) 20 (nI (skA (x.2.1 0) n e))) lt2 wd2) ++ ((a, .inr (4, [.ref an, .ref aw, .ref al, .int (nI t.1.length), .int (nI t.2.2.length)])) :: (an, .inl (G.2.2.1 4, 8, .inr (.inr (.inr (.inr nf))))) :: (aw, .inl (G.2.2.1 0, 8, .inl wf)) :: (al, .inl (G.2.2.1 10, 10, .inr (.inr (.inr (.inr lf))))) :: ((T ++ N) ++ N2))) s _ _ := hW
            refine lv_eqv (y := .ref (ad 4)) rfl ?_
            refine vx_athrow hx hb dX1_read_55 ?_
            exact ox htab hLk hQx (by omega) (by omega) ((va_up (va_up (va_up v2 18 4) 19 3) 20 (nI (skA (x.2.1 0) n e))), lt2, wd2, (N ++ N2)) (⟨3, skA (x.2.1 0) n e, hres.trans (rd_p hk0 h58 (by unfold prtF; rw [hp1])), rfl, rfl, rfl⟩) (by have hW := hW.drop4; simpa only [List.append_assoc, List.append_nil, List.cons_append, List.nil_append] using hW) (List.mem_of_getElem? (i := 4) rfl) (ci := 2) rfl
      · refine cx_r (rx_V (As := []) (rest := []) hF (mX1_letters_no l G ad x ((a, .inr (4, [.ref an, .ref aw, .ref al, .int (nI t.1.length), .int (nI t.2.2.length)])) :: (an, .inl (G.2.2.1 4, 8, .inr (.inr (.inr (.inr nf))))) :: (aw, .inl (G.2.2.1 0, 8, .inl wf)) :: (al, .inl (G.2.2.1 10, 10, .inr (.inr (.inr (.inr lf))))) :: (T ++ N)) v lt wd (tkK (x.2.1 0) n e) (skA (x.2.1 0) n e) t16 hk0 (tkK_lt _ _ _) t17) (cwV 0 hts (lw_V q579 q581 qs12 q60 q582) rfl rfl rfl (by decide +kernel) ⟨lb hR1 rfl, lb hR4 rfl⟩) hW (List.mem_of_getElem? (i := 2) rfl) (ci := 1) rfl rfl rfl hl.1 rfl (lv_room (Nat.le_of_ble_eq_true rfl)) dX1_read_14 ⟨by omega, by omega⟩) hW (fun u_26 H locs h_27 hW => ?_) (fun u_26 r_25 H locs h_27 hW => ?_)
        · exact ox htab hLk hQx (by omega) (by omega) (u_26.1, u_26.2.1, u_26.2.2.1, N ++ u_26.2.2.2) (⟨1, skA (x.2.1 0) n e, hres.trans (rd_1 hk0), h_27⟩) (by have hW := pM.drop4 (Y := (T ++ N) ++ u_26.2.2.2) hW; simpa only [List.append_assoc, List.append_nil, List.cons_append, List.nil_append] using hW) (List.mem_of_getElem? (i := 4) rfl) (ci := 2) rfl
        · exact h_27.elim
  exact W.widen (by omega) (by omega) (loop_8 _ t0 nf0 lf0 wf0 0 (n + 1) v1 lt1 wd1 N1 _ _ _ (Nat.lt_succ_self _) (Nat.zero_le _) (by omega) (rfl) (ht0.mono (fun q h => ms_l h)) (hok0) (b14) (b15) (b16) (b17) (fun z => by obtain ⟨q, q1, q2⟩ := bw z; exact ⟨q, q1, q2.mono (fun _ h => ms_r h)⟩) hW (lv_sub hl [1, 2, 3, 4, 5, 6, 0] rfl))
