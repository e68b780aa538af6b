/-! the model's days; about -/
theorem dayF_n {c : Co} {t : Tx} {g f : Nat} (h : ((cF c).getD f dF).2.2 = none) : dayF c t g f = ((cF c).getD f dF).2.1 := by
  cases g with
  | zero => rfl
  | succ g => show (match ((cF c).getD f dF).2.2 with | none => _ | some j => _) = _; rw [h]
theorem dayF_y {c : Co} {t : Tx} {g f j : Nat} (h : ((cF c).getD f dF).2.2 = some j) (hd : disA c ((cF c).getD j dF).1 t = true) : dayF c t (g + 1) f = dayF c t g j := by
  show (match ((cF c).getD f dF).2.2 with | none => _ | some j => _) = _
  rw [h]
  dsimp only
  rw [if_pos hd]
theorem dayF_f {c : Co} {t : Tx} {g f j : Nat} (h : ((cF c).getD f dF).2.2 = some j) (hd : disA c ((cF c).getD j dF).1 t = false) : dayF c t (g + 1) f = ((cF c).getD f dF).2.1 := by
  show (match ((cF c).getD f dF).2.2 with | none => _ | some j => _) = _
  rw [h]
  dsimp only
  rw [if_neg (by rw [hd]; decide)]
theorem mn_c (a b : Int32) : (if b < a then b else a) = if a < b then a else b := by
  by_cases h1 : b < a
  · rw [if_pos h1, if_neg (fun z => Int32.lt_irrefl (Int32.lt_trans h1 z))]
  · rw [if_neg h1]
    by_cases h2 : a < b
    · rw [if_pos h2]
    · rw [if_neg h2]; exact Int32.le_antisymm (Int32.not_lt.mp h1) (Int32.not_lt.mp h2)
theorem sols_ln {wd : Nat → Int32} {a b : Tx} {wn : Nat} : ∀ m A B, B ∈ solsF wd a b wn m A → B.length = A.length + m
  | 0, A, B, h => by
    rw [show B = A from by simpa [solsF] using h]; rfl
  | m + 1, A, B, h => by
    unfold solsF at h
    by_cases hb : wn.testBit A.length = true
    · rw [if_pos hb] at h
      obtain ⟨p, -, hp⟩ := List.mem_flatMap.mp h
      unfold solB at hp
      split at hp
      · exact absurd hp (List.not_mem_nil)
      · have := sols_ln m _ B hp
        rw [List.length_append] at this
        have h1 : ([some p] : List (Option Nat)).length = 1 := rfl
        omega
    · rw [if_neg hb] at h
      have := sols_ln m _ B h
      rw [List.length_append] at this
      have h1 : ([none] : List (Option Nat)).length = 1 := rfl
      omega
theorem sols_sm {wd : Nat → Int32} {a b : Tx} {wn : Nat} : ∀ m A B, (∀ i, i < A.length + m → wn.testBit i = true) → AllS A → (∀ i p, A.getD i none = some p → p < b.1.length) → B ∈ solsF wd a b wn m A → AllS B ∧ ∀ i p, B.getD i none = some p → p < b.1.length
  | 0, A, B, hw, hA, h8, h => by
    rw [show B = A from by simpa [solsF] using h]; exact ⟨hA, h8⟩
  | m + 1, A, B, hw, hA, h8, h => by
    unfold solsF at h
    rw [if_pos (hw A.length (by omega))] at h
    obtain ⟨p, hpr, hp⟩ := List.mem_flatMap.mp h
    have hpr := List.mem_range.mp hpr
    unfold solB at hp
    split at hp
    · exact absurd hp (List.not_mem_nil)
    · refine sols_sm m _ B (fun i hi => hw i ?_) hA.app ?_ hp
      · rw [List.length_append] at hi
        have h1 : ([some p] : List (Option Nat)).length = 1 := rfl
        omega
      · intro i q hq
        rw [getD_up] at hq
        by_cases e : i = A.length
        · rw [if_pos e] at hq; cases hq; exact hpr
        · rw [if_neg e] at hq; exact h8 i q hq
/-- the first way, as it is told -/
theorem way_1 {c : Co} {a b : Tx} {A : List (Option Nat)} {S : List (List (Option Nat))} (h : waysA c a b = A :: S) : A.length = a.1.length ∧ (∀ j, j < a.1.length → enc (A.getD j none) = nI ((wayL (waysA c a b)).getD j 0)) ∧ ∀ w ∈ wayL (waysA c a b), w < b.1.length := by
  have hm : A ∈ waysA c a b := by rw [h]; exact List.mem_cons_self
  have h1 := sols_ln _ _ _ hm
  have h1 : A.length = a.1.length := by rw [h1]; exact Nat.zero_add _
  obtain ⟨h2, h3⟩ := sols_sm a.1.length [] A (fun i hi => all_bit (by have : i < 0 + a.1.length := hi; omega)) (fun i hi => absurd hi (Nat.not_lt_zero _)) (fun i p hi => by cases i <;> cases hi) hm
  refine ⟨h1, fun j hj => ?_, fun w hw => ?_⟩
  · obtain ⟨p, hp⟩ := h2 j (by omega)
    rw [h]
    show enc _ = nI ((A.map (fun o => o.getD 0)).getD j 0)
    rw [map_get (d := none) (by omega), hp]; rfl
  · rw [h] at hw
    obtain ⟨o, ho, e⟩ := List.mem_map.mp (show w ∈ A.map (fun o => o.getD 0) from hw)
    obtain ⟨i, hi, e2⟩ := List.getElem_of_mem ho
    obtain ⟨p, hp⟩ := h2 i hi
    have e3 : o = some p := by rw [← hp, List.getD_eq_getElem?_getD, List.getElem?_eq_getElem hi, e2]; rfl
    rw [← e, e3]; exact h3 i p hp
theorem waysA_len {c : Co} {a b : Tx} (ha : a.1.length ≤ 8) (hb : b.1.length ≤ 8) : (waysA c a b).length ≤ 16777216 := sols_lt hb ha

set_option maxRecDepth 100000 in
set_option maxHeartbeats 4000000 in
theorem mX4_dayOf (l : Launch) (G : pG) (ad : Nat → Nat) (y : XV) (W0 T : va_W) (hT : ∀ q ∈ T, q ∈ W0) (S : AS) (n9 : Nat) (hS : SOk n9 S) (hn9 : n9 ≤ 64) (hMR : MR G T y S) (k : Nat) (hk : k < (cC S.1).length) : Met l yX4_dayOf (ws_ yX4_dayOf cX4_dayOf 3 (some .int)) ({ frames := 22, cells := 0, slots := 0, locals := 1045 } : Room) (va_Pc [.ref (ad 0), .int (nI k)] (fun U => pW G (MWl G ad y ++ W0) U)) (va_Qi (fun r (u : MF) => r = nI (dayOf S.1 k)) (fun (u : MF) t9 => pW G (MWl G ad (mfx y u.1 u.2.1 u.2.2) ++ W0) t9) (pA G)) 0 0 (pA G) := by
  refine mw (by decide) (Nat.le_of_ble_eq_true rfl) ?_
  intro pp ee R s m below meth c ls Q hF hRt hLk hnm hR hQ hW hl
  have hx := hF.1
  have hb := hF.2.1
  have hts := hF.2.2.2.2
  have hR1 : R.frames = 22 := by rw [hR]
  have hR2 : R.cells = 0 := by rw [hR]
  have hR3 : R.slots = 0 := by rw [hR]
  have hR4 : R.locals = 1045 := by rw [hR]
  have hl : lv_has ls 3 [(0, .ref (ad 0)), (1, .int (nI k))] := hl
  have hW : pM G (MWl G ad y ++ W0) s s.heap [] := hW
  obtain ⟨m0, m1, m2, m3, m4, m5, m6, m7, m8, m9, m10, m11, m12, m13, m14, m15, m16, m17, m18, m19, m20, m21, m22⟩ := hMR
  have hI := hS.inv
  have b0 := hI.1.1
  have b1 := hI.2.1.1
  have b2 := hI.2.2.1.1
  have b3 := hI.2.2.2.1.1
  have b4 := hI.2.2.2.2.1.1
  have b5 := hI.2.2.2.2.2
  have b6 := hS.2.1
  have b7 := hS.2.2.1
  have b8 := hS.2.2.2.1
  have b9 := hS.2.2.2.2.1
  have hfi := (hI.2.2.2.2.1.2 k hk).2.1
  have hokc := (hI.2.2.2.2.1.2 k hk).1
  obtain ⟨qc, hqc1, hqc2⟩ := (m9 k hk).1
  have hW : pM G (MWl G ad (mfx y (y.1 17) (y.2.1 14) (y.2.1 15)) ++ W0) s _ _ := hW
  refine lv_aload_n hx hb dX4_dayOf_0 rfl (lv_at hl 0 rfl) ?_
  refine gM0_claimFile hF hW q1116 dX4_dayOf_1 ?_
  refine lv_iload_n hx hb dX4_dayOf_4 rfl (lv_at hl 1 rfl) ?_
  refine lM12 hF hW (j := k) (rfl) (by omega) (v := nI ((cC S.1).getD k dC).2.1) ((m9 k hk).2.1) dX4_dayOf_5 ?_
  refine lv_istore_n (lv' := [(2, .int (nI ((cC S.1).getD k dC).2.1)), (0, .ref (ad 0)), (1, .int (nI k))]) hx hb dX4_dayOf_6 rfl hl (by decide) rfl (fun ls hl => ?_)
  have loop_7 : ∀ (nn : Nat) (f : Nat) (g : Nat) (w : Int32) (go : Nat → Int32) (fi : Nat → Int32) (H : Heap) (locs : List Loc) (ls : Array Slot), f < nn → (f < (cF S.1).length) → (f ≤ g) → (dayF S.1 ((cC S.1).getD k dC).1 8 ((cC S.1).getD k dC).2.1 = dayF S.1 ((cC S.1).getD k dC).1 g f) → pM G (MWl G ad (mfx y w go fi) ++ W0) s H locs → lv_has ls 3 [(0, .ref (ad 0)), (1, .int (nI k)), (2, .int (nI f))] → W pp l ee R s m ([.ref (ad 0), .int (nI k)] : List Value).toArray below meth c H locs 0 0 Q (F0 m 7 ls []) := by
    intro nn
    induction nn with
    | zero => intro f g w go fi H locs ls hm; exact absurd hm (Nat.not_lt_zero _)
    | succ nn ih =>
      intro f g w go fi H locs ls hm hf hfg hres hW hl
      refine lv_aload_n hx hb dX4_dayOf_7 rfl (lv_at hl 0 rfl) ?_
      refine gM0_fileBack hF hW q1115 dX4_dayOf_8 ?_
      refine lv_iload_n hx hb dX4_dayOf_11 rfl (lv_at hl 2 rfl) ?_
      refine lM11 hF hW (j := f) (rfl) (by omega) (v := enc ((cF S.1).getD f dF).2.2) ((m5 f hf).2.2) dX4_dayOf_12 ?_
      refine lv_iconst (v := (-1)) hx hb dX4_dayOf_13 (by decide) ?_
      refine lv_icmp_eq (tgt := 51) hx hb dX4_dayOf_14 (by decide) (fun c_14 => ?_) (fun c_14 => ?_)
      · have hbk : ((cF S.1).getD f dF).2.2 = none := enc_m1 (bk_b hI hf) c_14
        refine lv_aload_n hx hb dX4_dayOf_51 rfl (lv_at hl 0 rfl) ?_
        refine gM0_fileDay hF hW q1114 dX4_dayOf_52 ?_
        refine lv_iload_n hx hb dX4_dayOf_55 rfl (lv_at hl 2 rfl) ?_
        refine lM10 hF hW (j := f) (rfl) (by omega) (v := nI ((cF S.1).getD f dF).2.1) ((m5 f hf).2.1) dX4_dayOf_56 ?_
        exact re_i hF hRt hLk hQ (by omega) (by omega) dX4_dayOf_57 (w, go, fi) (by show nI _ = nI (dayF S.1 ((cC S.1).getD k dC).1 8 ((cC S.1).getD k dC).2.1); rw [hres, dayF_n hbk]) hW
      · obtain ⟨j, hj⟩ : ∃ j, ((cF S.1).getD f dF).2.2 = some j := by cases h : ((cF S.1).getD f dF).2.2 with | none => exact absurd (by rw [h]; rfl) c_14 | some j => exact ⟨j, rfl⟩
        have hjf := (hI.2.2.1.2 f hf).2.2 j hj
        have hjl : j < (cF S.1).length := by omega
        obtain ⟨g, rfl⟩ : ∃ z, g = z + 1 := ⟨g - 1, by omega⟩
        refine lv_aload_n hx hb dX4_dayOf_17 rfl (lv_at hl 0 rfl) ?_
        refine lv_aload_n hx hb dX4_dayOf_18 rfl (lv_at hl 0 rfl) ?_
        refine gM0_file hF hW q1108 dX4_dayOf_19 ?_
        refine lv_aload_n hx hb dX4_dayOf_22 rfl (lv_at hl 0 rfl) ?_
        refine gM0_fileBack hF hW q1115 dX4_dayOf_23 ?_
        refine lv_iload_n hx hb dX4_dayOf_26 rfl (lv_at hl 2 rfl) ?_
        refine lM11 hF hW (j := f) (rfl) (by omega) (v := nI j) ((m5 f hf).2.2.trans (by rw [hj]; rfl)) dX4_dayOf_27 ?_
        obtain ⟨qf, hqf1, hqf2⟩ := (m5 j hjl).1
        refine lM4 hF hW (j := j) (rfl) (by omega) (r := qf) (hqf1) dX4_dayOf_28 ?_
        refine lv_aload_n hx hb dX4_dayOf_29 rfl (lv_at hl 0 rfl) ?_
        refine gM0_claim hF hW q1110 dX4_dayOf_30 ?_
        refine lv_iload_n hx hb dX4_dayOf_33 rfl (lv_at hl 1 rfl) ?_
        refine lM6 hF hW (j := k) (rfl) (by omega) (r := qc) (hqc1) dX4_dayOf_34 ?_
        have hW : pM G (MWl G ad (mfx (mfx y w go fi) ((mfx y w go fi).1 17) ((mfx y w go fi).2.1 14) ((mfx y w go fi).2.1 15)) ++ W0) s _ _ := hW
        refine cl_i (ru_V (As := [.ref qf, .ref qc]) (rest := []) hF (mX4_discloses l G ad (mfx y w go fi) W0 ((mfx y w go fi).1 17) ((mfx y w go fi).2.1 14) ((mfx y w go fi).2.1 15) qc qf (((cC S.1).getD k dC).1) (((cF S.1).getD j dF).1) (hqc2.u.mono hT) (hqf2.u.mono hT) (cW S.1).length (WdOk.cg m1.2 (wdF_ok hI)) b0 hokc.wide ((hI.2.2.1.2 j hjl).1)) (cwV 2 hts (lw_V q1362 q1364 qs46 q66 q1365) rfl rfl rfl (by decide +kernel) ⟨lb hR1 rfl, lb hR4 rfl⟩) hW (List.mem_of_getElem? (i := 0) rfl) (ci := 20) rfl rfl rfl hl.1 rfl (lv_room (Nat.le_of_ble_eq_true rfl)) dX4_dayOf_35 ⟨by omega, by omega⟩) hW (fun r_ u_ H locs h_ hW => ?_)
        obtain ⟨w2, go2, fi2⟩ := u_
        have hW : pM G (MWl G ad (mfx y w2 go2 fi2) ++ W0) s _ _ := hW
        rcases h_ with ⟨rfl, hd⟩ | ⟨rfl, hd⟩
        · have hd : disA S.1 (((cF S.1).getD j dF).1) (((cC S.1).getD k dC).1) = true := by unfold disA; rw [← disB_cg (wd := wdF S.1) m1.2 (wdF_ok hI) b0 ((hI.2.2.1.2 j hjl).1)]; exact hd
          refine lv_if_eq (tgt := 51) hx hb dX4_dayOf_38 (by decide) (fun c_38 => absurd c_38 (by decide)) (fun c_38 => ?_)
          refine lv_aload_n hx hb dX4_dayOf_41 rfl (lv_at hl 0 rfl) ?_
          refine gM0_fileBack hF hW q1115 dX4_dayOf_42 ?_
          refine lv_iload_n hx hb dX4_dayOf_45 rfl (lv_at hl 2 rfl) ?_
          refine lM11 hF hW (j := f) (rfl) (by omega) (v := nI j) ((m5 f hf).2.2.trans (by rw [hj]; rfl)) dX4_dayOf_46 ?_
          refine lv_istore_n (lv' := [(2, .int (nI j)), (0, .ref (ad 0)), (1, .int (nI k))]) hx hb dX4_dayOf_47 rfl hl (by decide) rfl (fun ls hl => ?_)
          refine lv_goto (tgt := 7) hx hb dX4_dayOf_48 (by decide) ?_
          exact W.widen (by omega) (by omega) (ih j g w2 go2 fi2 H locs ls (by omega) (by omega) (by omega) (hres.trans (dayF_y hj hd)) hW (lv_sub hl [1, 2, 0] rfl))
        · have hd : disA S.1 (((cF S.1).getD j dF).1) (((cC S.1).getD k dC).1) = false := by unfold disA; rw [← disB_cg (wd := wdF S.1) m1.2 (wdF_ok hI) b0 ((hI.2.2.1.2 j hjl).1)]; exact hd
          refine lv_if_eq (tgt := 51) hx hb dX4_dayOf_38 (by decide) (fun c_38 => ?_) (fun c_38 => absurd c_38 (by decide))
          refine lv_aload_n hx hb dX4_dayOf_51 rfl (lv_at hl 0 rfl) ?_
          refine gM0_fileDay hF hW q1114 dX4_dayOf_52 ?_
          refine lv_iload_n hx hb dX4_dayOf_55 rfl (lv_at hl 2 rfl) ?_
          refine lM10 hF hW (j := f) (rfl) (by omega) (v := nI ((cF S.1).getD f dF).2.1) ((m5 f hf).2.1) dX4_dayOf_56 ?_
          exact re_i hF hRt hLk hQ (by omega) (by omega) dX4_dayOf_57 (w2, go2, fi2) (by show nI _ = nI (dayF S.1 ((cC S.1).getD k dC).1 8 ((cC S.1).getD k dC).2.1); rw [hres, dayF_f hj hd]) hW
  exact loop_7 _ (((cC S.1).getD k dC).2.1) 8 (y.1 17) (y.2.1 14) (y.2.1 15) _ _ _ (Nat.lt_succ_self _) (hfi) (by omega) (rfl) hW (lv_sub hl [1, 2, 0] rfl)

set_option maxRecDepth 100000 in
set_option maxHeartbeats 4000000 in
theorem mX4_endOf (l : Launch) (G : pG) (ad : Nat → Nat) (y : XV) (W0 T : va_W) (hT : ∀ q ∈ T, q ∈ W0) (S : AS) (n9 : Nat) (hS : SOk n9 S) (hn9 : n9 ≤ 64) (hMR : MR G T y S) (k : Nat) (hk : k < (cC S.1).length) (kn : Int32) : Met l yX4_endOf (ws_ yX4_endOf cX4_endOf 4 (some .int)) ({ frames := 1, cells := 0, slots := 0, locals := 21 } : Room) (va_Pc [.ref (ad 0), .int (nI k), .int kn] (fun U => pW G (MWl G ad y ++ W0) U)) (va_Qi (fun r (_ : Unit) => r = endsF S.1 k kn) (fun (u : Unit) t9 => pW G (MWl G ad y ++ W0) t9) (pA G)) 0 0 (pA G) := by
  refine mw (by decide) (Nat.le_of_ble_eq_true rfl) ?_
  intro pp ee R s m below meth c ls Q hF hRt hLk hnm hR hQ hW hl
  have hx := hF.1
  have hb := hF.2.1
  have hts := hF.2.2.2.2
  have hR1 : R.frames = 1 := by rw [hR]
  have hR2 : R.cells = 0 := by rw [hR]
  have hR3 : R.slots = 0 := by rw [hR]
  have hR4 : R.locals = 21 := by rw [hR]
  have hl : lv_has ls 4 [(0, .ref (ad 0)), (1, .int (nI k)), (2, .int kn)] := hl
  have hW : pM G (MWl G ad y ++ W0) s s.heap [] := hW
  obtain ⟨m0, m1, m2, m3, m4, m5, m6, m7, m8, m9, m10, m11, m12, m13, m14, m15, m16, m17, m18, m19, m20, m21, m22⟩ := hMR
  have hI := hS.inv
  have b0 := hI.1.1
  have b1 := hI.2.1.1
  have b2 := hI.2.2.1.1
  have b3 := hI.2.2.2.1.1
  have b4 := hI.2.2.2.2.1.1
  have b5 := hI.2.2.2.2.2
  have b6 := hS.2.1
  have b7 := hS.2.2.1
  have b8 := hS.2.2.2.1
  have b9 := hS.2.2.2.2.1
  have hfi := (hI.2.2.2.2.1.2 k hk).2.1
  refine lv_aload_n hx hb dX4_endOf_0 rfl (lv_at hl 0 rfl) ?_
  refine gM0_fileDay hF hW q1114 dX4_endOf_1 ?_
  refine lv_aload_n hx hb dX4_endOf_4 rfl (lv_at hl 0 rfl) ?_
  refine gM0_claimFile hF hW q1116 dX4_endOf_5 ?_
  refine lv_iload_n hx hb dX4_endOf_8 rfl (lv_at hl 1 rfl) ?_
  refine lM12 hF hW (j := k) (rfl) (by omega) (v := nI ((cC S.1).getD k dC).2.1) ((m9 k hk).2.1) dX4_endOf_9 ?_
  refine lM10 hF hW (j := ((cC S.1).getD k dC).2.1) (rfl) (by omega) (v := nI ((cF S.1).getD ((cC S.1).getD k dC).2.1 dF).2.1) ((m5 ((cC S.1).getD k dC).2.1 hfi).2.1) dX4_endOf_10 ?_
  refine lv_sipush (v := 7300) hx hb dX4_endOf_11 (by decide) ?_
  refine lv_iadd hx hb dX4_endOf_14 ?_
  refine lv_eqi (show (nI ((cF S.1).getD ((cC S.1).getD k dC).2.1 dF).2.1) + 7300 = nI ((cF S.1).getD ((cC S.1).getD k dC).2.1 dF).2.1 + 7300 from rfl) ?_
  refine lv_istore_n (lv' := [(3, .int (nI ((cF S.1).getD ((cC S.1).getD k dC).2.1 dF).2.1 + 7300)), (0, .ref (ad 0)), (1, .int (nI k)), (2, .int kn)]) hx hb dX4_endOf_15 rfl hl (by decide) rfl (fun ls hl => ?_)
  refine lv_aload_n hx hb dX4_endOf_16 rfl (lv_at hl 1 rfl) ?_
  refine gM0_dropDay hF hW q1120 dX4_endOf_17 ?_
  refine lv_iload_n hx hb dX4_endOf_20 rfl (lv_at hl 2 rfl) ?_
  refine lM16 hF hW (j := k) (rfl) (by omega) (v := enc ((cC S.1).getD k dC).2.2.2.2.2) ((m9 k hk).2.2.2.2.2) dX4_endOf_21 ?_
  refine lv_iconst (v := (-1)) hx hb dX4_endOf_22 (by decide) ?_
  refine lv_icmp_eq (tgt := 49) hx hb dX4_endOf_23 (by decide) (fun c_23 => ?_) (fun c_23 => ?_)
  · refine lv_iload_n hx hb dX4_endOf_49 rfl (lv_at hl 0 rfl) ?_
    exact re_i hF hRt hLk hQ (by omega) (by omega) dX4_endOf_50 () (by unfold endsF endsV; rw [if_neg (fun z => z.1 c_23)]) hW
  · refine lv_aload_n hx hb dX4_endOf_26 rfl (lv_at hl 1 rfl) ?_
    refine gM0_dropDay hF hW q1120 dX4_endOf_27 ?_
    refine lv_iload_n hx hb dX4_endOf_30 rfl (lv_at hl 2 rfl) ?_
    refine lM16 hF hW (j := k) (rfl) (by omega) (v := enc ((cC S.1).getD k dC).2.2.2.2.2) ((m9 k hk).2.2.2.2.2) dX4_endOf_31 ?_
    refine lv_iload_n hx hb dX4_endOf_32 rfl (lv_at hl 3 rfl) ?_
    refine lv_icmp_gt (tgt := 49) hx hb dX4_endOf_33 (by decide) (fun c_33 => ?_) (fun c_33 => ?_)
    · refine lv_iload_n hx hb dX4_endOf_49 rfl (lv_at hl 0 rfl) ?_
      exact re_i hF hRt hLk hQ (by omega) (by omega) dX4_endOf_50 () (by unfold endsF endsV; rw [if_neg (fun z => absurd z.2 (Int32.not_le.mpr c_33))]) hW
    · refine lv_iload_n hx hb dX4_endOf_36 rfl (lv_at hl 0 rfl) ?_
      refine lv_aload_n hx hb dX4_endOf_37 rfl (lv_at hl 1 rfl) ?_
      refine gM0_dropDay hF hW q1120 dX4_endOf_38 ?_
      refine lv_iload_n hx hb dX4_endOf_41 rfl (lv_at hl 2 rfl) ?_
      refine lM16 hF hW (j := k) (rfl) (by omega) (v := enc ((cC S.1).getD k dC).2.2.2.2.2) ((m9 k hk).2.2.2.2.2) dX4_endOf_42 ?_
      refine va_mmin hx hb (hF.2.2.1.trans hl.1.symm) hF.2.2.2.1 (hts _ q1418) (hts _ q902) (hts _ q90) (hts _ q903) (lb hR1 rfl) (lb hR4 rfl) (by omega) (by omega) dX4_endOf_43 ?_
      refine lv_goto (tgt := 50) hx hb dX4_endOf_46 (by decide) ?_
      exact re_i hF hRt hLk hQ (by omega) (by omega) dX4_endOf_50 () (by unfold endsF endsV; exact (mn_c _ _).trans (if_pos (c := enc ((cC S.1).getD k dC).2.2.2.2.2 ≠ -1 ∧ enc ((cC S.1).getD k dC).2.2.2.2.2 ≤ kn) ⟨c_23, Int32.not_lt.mp c_33⟩).symm) hW

set_option maxRecDepth 100000 in
set_option maxHeartbeats 4000000 in
theorem mX4_about (l : Launch) (G : pG) (ad : Nat → Nat) (y : XV) (W0 T : va_W) (hT : ∀ q ∈ T, q ∈ W0) (S : AS) (n9 : Nat) (hS : SOk n9 S) (hn9 : n9 ≤ 64) (hMR : MR G T y S) (a0 a1 : Int32) : Met l yX4_about (ws_ yX4_about cX4_about 3 (some .int)) ({ frames := 23, cells := 0, slots := 0, locals := 1067 } : Room) (va_Pc [.ref (ad 0), .int a0, .int a1] (fun U => pW G (MWl G ad y ++ W0) U)) (va_Qi (fun r (u : XV) => r = ((S, aboutS S a0 a1)).2 ∧ MR G T u ((S, aboutS S a0 a1)).1) (fun (u : XV) t9 => pW G (MWl G ad u ++ W0) t9) (pA G)) 0 0 (pA G) := by
  refine mw (by decide) (Nat.le_of_ble_eq_true rfl) ?_
  intro pp ee R s m below meth c ls Q hF hRt hLk hnm hR hQ hW hl
  have hx := hF.1
  have hb := hF.2.1
  have hts := hF.2.2.2.2
  have hR1 : R.frames = 23 := by rw [hR]
  have hR2 : R.cells = 0 := by rw [hR]
  have hR3 : R.slots = 0 := by rw [hR]
  have hR4 : R.locals = 1067 := by rw [hR]
  have hl : lv_has ls 3 [(0, .ref (ad 0)), (1, .int a0), (2, .int a1)] := hl
  have hW : pM G (MWl G ad y ++ W0) s s.heap [] := hW
  obtain ⟨m0, m1, m2, m3, m4, m5, m6, m7, m8, m9, m10, m11, m12, m13, m14, m15, m16, m17, m18, m19, m20, m21, m22⟩ := hMR
  have hI := hS.inv
  have b0 := hI.1.1
  have b1 := hI.2.1.1
  have b2 := hI.2.2.1.1
  have b3 := hI.2.2.2.1.1
  have b4 := hI.2.2.2.2.1.1
  have b5 := hI.2.2.2.2.2
  have b6 := hS.2.1
  have b7 := hS.2.2.1
  have b8 := hS.2.2.2.1
  have b9 := hS.2.2.2.2.1
  cases hi0 : ix a0 (cC S.1).length with
  | none =>
    refine lv_aload_n hx hb dX4_about_0 rfl (lv_at hl 0 rfl) ?_
    refine lv_iconst (v := 0) hx hb dX4_about_1 (by decide) ?_
    refine pM0_thrown hF hW q1095 dX4_about_2 (fun H locs hW => ?_)
    have hW : pM G (MWl G ad (xi y 0 0) ++ W0) s _ _ := hW
    refine lv_aload_n hx hb dX4_about_5 rfl (lv_at hl 0 rfl) ?_
    refine lv_iload_n hx hb dX4_about_6 rfl (lv_at hl 1 rfl) ?_
    refine cl_i (ru_V (As := [.int a0]) (rest := []) hF (mX4_isClaim l G ad (xi y 0 0) W0 a0) (cwV 1 hts (lw_V q1354 q1356 qs45 q66 q1357) rfl rfl rfl (by decide +kernel) ⟨lb hR1 rfl, lb hR4 rfl⟩) hW (List.mem_of_getElem? (i := 0) rfl) (ci := 20) rfl rfl rfl hl.1 rfl (lv_room (Nat.le_of_ble_eq_true rfl)) dX4_about_7 ⟨by omega, by omega⟩) hW (fun r_ u_ H locs h_ hW => ?_)
    have hW : pM G (MWl G ad (xi y 0 0) ++ W0) s _ _ := hW
    rcases h_ with ⟨rfl, h_⟩ | ⟨rfl, h_⟩
    · exact absurd h_ (fun z => ix_no hi0 (by rw [show (xi y 0 0).1 7 = nI (cC S.1).length from m8] at z; exact z))
    · refine lv_if_ne (tgt := 15) hx hb dX4_about_10 (by decide) (fun c_10 => absurd c_10 (by decide)) (fun c_10 => ?_)
      refine lv_iconst (v := (-1)) hx hb dX4_about_13 (by decide) ?_
      exact re_i hF hRt hLk hQ (by omega) (by omega) dX4_about_14 (xi y 0 0) (⟨by unfold aboutS; rw [hi0], ⟨m0, m1, m2, m3, m4, m5, m6, m7, m8, m9, m10, m11, m12, m13, m14, m15, m16, m17, m18, m19, m20, m21, m22⟩⟩) hW
  | some k0 =>
    obtain ⟨hk0, rfl⟩ := ix_some hi0 (by omega)
    refine lv_aload_n hx hb dX4_about_0 rfl (lv_at hl 0 rfl) ?_
    refine lv_iconst (v := 0) hx hb dX4_about_1 (by decide) ?_
    refine pM0_thrown hF hW q1095 dX4_about_2 (fun H locs hW => ?_)
    have hW : pM G (MWl G ad (xi y 0 0) ++ W0) s _ _ := hW
    refine lv_aload_n hx hb dX4_about_5 rfl (lv_at hl 0 rfl) ?_
    refine lv_iload_n hx hb dX4_about_6 rfl (lv_at hl 1 rfl) ?_
    refine cl_i (ru_V (As := [.int (nI k0)]) (rest := []) hF (mX4_isClaim l G ad (xi y 0 0) W0 (nI k0)) (cwV 1 hts (lw_V q1354 q1356 qs45 q66 q1357) rfl rfl rfl (by decide +kernel) ⟨lb hR1 rfl, lb hR4 rfl⟩) hW (List.mem_of_getElem? (i := 0) rfl) (ci := 20) rfl rfl rfl hl.1 rfl (lv_room (Nat.le_of_ble_eq_true rfl)) dX4_about_7 ⟨by omega, by omega⟩) hW (fun r_ u_ H locs h_ hW => ?_)
    have hW : pM G (MWl G ad (xi y 0 0) ++ W0) s _ _ := hW
    rcases h_ with ⟨rfl, h_⟩ | ⟨rfl, h_⟩
    · refine lv_if_ne (tgt := 15) hx hb dX4_about_10 (by decide) (fun c_10 => ?_) (fun c_10 => absurd c_10 (by decide))
      refine lv_iload_n hx hb dX4_about_15 rfl (lv_at hl 2 rfl) ?_
      by_cases w_16_0 : a1 = 0
      · subst w_16_0
        refine lv_tableIn (tgt := 64) hx hb dX4_about_16 (by decide) (by decide) rfl rfl ?_
        refine lv_aload_n hx hb dX4_about_64 rfl (lv_at hl 0 rfl) ?_
        refine gM0_claimFile hF hW q1116 dX4_about_65 ?_
        refine lv_iload_n hx hb dX4_about_68 rfl (lv_at hl 1 rfl) ?_
        refine lM12 hF hW (j := k0) (rfl) (by omega) (v := nI ((cC S.1).getD k0 dC).2.1) ((m9 k0 hk0).2.1) dX4_about_69 ?_
        exact re_i hF hRt hLk hQ (by omega) (by omega) dX4_about_70 (xi y 0 0) (⟨by unfold aboutS; rw [hi0]; rfl, ⟨m0, m1, m2, m3, m4, m5, m6, m7, m8, m9, m10, m11, m12, m13, m14, m15, m16, m17, m18, m19, m20, m21, m22⟩⟩) hW
      · by_cases w_16_1 : a1 = 1
        · subst w_16_1
          refine lv_tableIn (tgt := 71) hx hb dX4_about_16 (by decide) (by decide) rfl rfl ?_
          refine lv_aload_n hx hb dX4_about_71 rfl (lv_at hl 0 rfl) ?_
          refine gM0_claimOn hF hW q1117 dX4_about_72 ?_
          refine lv_iload_n hx hb dX4_about_75 rfl (lv_at hl 1 rfl) ?_
          refine lM13 hF hW (j := k0) (rfl) (by omega) (v := enc ((cC S.1).getD k0 dC).2.2.1) ((m9 k0 hk0).2.2.1) dX4_about_76 ?_
          exact re_i hF hRt hLk hQ (by omega) (by omega) dX4_about_77 (xi y 0 0) (⟨by unfold aboutS; rw [hi0]; rfl, ⟨m0, m1, m2, m3, m4, m5, m6, m7, m8, m9, m10, m11, m12, m13, m14, m15, m16, m17, m18, m19, m20, m21, m22⟩⟩) hW
        · by_cases w_16_2 : a1 = 2
          · subst w_16_2
            refine lv_tableIn (tgt := 78) hx hb dX4_about_16 (by decide) (by decide) rfl rfl ?_
            refine lv_aload_n hx hb dX4_about_78 rfl (lv_at hl 0 rfl) ?_
            refine gM0_claim hF hW q1110 dX4_about_79 ?_
            refine lv_iload_n hx hb dX4_about_82 rfl (lv_at hl 1 rfl) ?_
            obtain ⟨qc, hqc1, hqc2⟩ := (m9 k0 hk0).1
            obtain ⟨an9, aw9, af9, av9, at9, nf9, wf9, ff9, vf9, tf9, hq3, -⟩ := id hqc2
            have hq3 := hT _ hq3
            refine lM6 hF hW (j := k0) (rfl) (by omega) (r := qc) (hqc1) dX4_about_83 ?_
            refine gtN hF hW (ms_r hq3) (ci := 22) rfl in_X6 0 (by decide) (List.mem_of_getElem? (i := 7) rfl) rfl (v := .int (nI ((cC S.1).getD k0 dC).1.1.length)) rfl dX4_about_84 ?_
            exact re_i hF hRt hLk hQ (by omega) (by omega) dX4_about_87 (xi y 0 0) (⟨by unfold aboutS; rw [hi0]; rfl, ⟨m0, m1, m2, m3, m4, m5, m6, m7, m8, m9, m10, m11, m12, m13, m14, m15, m16, m17, m18, m19, m20, m21, m22⟩⟩) hW
          · by_cases w_16_3 : a1 = 3
            · subst w_16_3
              refine lv_tableIn (tgt := 88) hx hb dX4_about_16 (by decide) (by decide) rfl rfl ?_
              refine lv_aload_n hx hb dX4_about_88 rfl (lv_at hl 0 rfl) ?_
              refine gM0_claim hF hW q1110 dX4_about_89 ?_
              refine lv_iload_n hx hb dX4_about_92 rfl (lv_at hl 1 rfl) ?_
              obtain ⟨qc, hqc1, hqc2⟩ := (m9 k0 hk0).1
              obtain ⟨an9, aw9, af9, av9, at9, nf9, wf9, ff9, vf9, tf9, hq3, -⟩ := id hqc2
              have hq3 := hT _ hq3
              refine lM6 hF hW (j := k0) (rfl) (by omega) (r := qc) (hqc1) dX4_about_93 ?_
              refine gtN hF hW (ms_r hq3) (ci := 22) rfl in_X6 1 (by decide) (List.mem_of_getElem? (i := 8) rfl) rfl (v := .int (nI ((cC S.1).getD k0 dC).1.2.2.length)) rfl dX4_about_94 ?_
              exact re_i hF hRt hLk hQ (by omega) (by omega) dX4_about_97 (xi y 0 0) (⟨by unfold aboutS; rw [hi0]; rfl, ⟨m0, m1, m2, m3, m4, m5, m6, m7, m8, m9, m10, m11, m12, m13, m14, m15, m16, m17, m18, m19, m20, m21, m22⟩⟩) hW
            · by_cases w_16_4 : a1 = 4
              · subst w_16_4
                refine lv_tableIn (tgt := 98) hx hb dX4_about_16 (by decide) (by decide) rfl rfl ?_
                refine lv_aload_n hx hb dX4_about_98 rfl (lv_at hl 0 rfl) ?_
                refine lv_iload_n hx hb dX4_about_99 rfl (lv_at hl 1 rfl) ?_
                refine cl_i (ru_V (As := [.int (nI k0)]) (rest := []) hF (mX4_dayOf l G ad (xi y 0 0) W0 T hT S n9 hS hn9 ⟨m0, m1, m2, m3, m4, m5, m6, m7, m8, m9, m10, m11, m12, m13, m14, m15, m16, m17, m18, m19, m20, m21, m22⟩ k0 hk0) (cwV 1 hts (lw_V q1410 q1412 qs52 q66 q1413) rfl rfl rfl (by decide +kernel) ⟨lb hR1 rfl, lb hR4 rfl⟩) hW (List.mem_of_getElem? (i := 0) rfl) (ci := 20) rfl rfl rfl hl.1 rfl (lv_room (Nat.le_of_ble_eq_true rfl)) dX4_about_100 ⟨by omega, by omega⟩) hW (fun r_ u_ H locs h_ hW => ?_)
                obtain ⟨w3, go3, fi3⟩ := u_
                obtain rfl : r_ = nI (dayOf S.1 k0) := h_
                have hW : pM G (MWl G ad (mfx (xi y 0 0) w3 go3 fi3) ++ W0) s _ _ := hW
                exact re_i hF hRt hLk hQ (by omega) (by omega) dX4_about_103 (mfx (xi y 0 0) w3 go3 fi3) (⟨by unfold aboutS; rw [hi0]; rfl, ⟨m0, m1, m2, m3, m4, m5, m6, m7, m8, m9, m10, m11, m12, m13, m14, m15, m16, m17, m18, m19, m20, m21, m22⟩⟩) hW
              · by_cases w_16_5 : a1 = 5
                · subst w_16_5
                  refine lv_tableIn (tgt := 104) hx hb dX4_about_16 (by decide) (by decide) rfl rfl ?_
                  refine lv_aload_n hx hb dX4_about_104 rfl (lv_at hl 0 rfl) ?_
                  refine gM0_grantDay hF hW q1119 dX4_about_105 ?_
                  refine lv_iload_n hx hb dX4_about_108 rfl (lv_at hl 1 rfl) ?_
                  refine lM15 hF hW (j := k0) (rfl) (by omega) (v := enc ((cC S.1).getD k0 dC).2.2.2.2.1) ((m9 k0 hk0).2.2.2.2.1) dX4_about_109 ?_
                  exact re_i hF hRt hLk hQ (by omega) (by omega) dX4_about_110 (xi y 0 0) (⟨by unfold aboutS; rw [hi0]; rfl, ⟨m0, m1, m2, m3, m4, m5, m6, m7, m8, m9, m10, m11, m12, m13, m14, m15, m16, m17, m18, m19, m20, m21, m22⟩⟩) hW
                · by_cases w_16_6 : a1 = 6
                  · subst w_16_6
                    refine lv_tableIn (tgt := 111) hx hb dX4_about_16 (by decide) (by decide) rfl rfl ?_
                    refine lv_aload_n hx hb dX4_about_111 rfl (lv_at hl 0 rfl) ?_
                    refine gM0_grantDay hF hW q1119 dX4_about_112 ?_
                    refine lv_iload_n hx hb dX4_about_115 rfl (lv_at hl 1 rfl) ?_
                    refine lM15 hF hW (j := k0) (rfl) (by omega) (v := enc ((cC S.1).getD k0 dC).2.2.2.2.1) ((m9 k0 hk0).2.2.2.2.1) dX4_about_116 ?_
                    refine lv_iconst (v := (-1)) hx hb dX4_about_117 (by decide) ?_
                    refine lv_icmp_ne (tgt := 125) hx hb dX4_about_118 (by decide) (fun c_118 => ?_) (fun c_118 => ?_)
                    · have hg : ¬ ((cC S.1).getD k0 dC).2.2.2.2.1 = none := fun z => c_118 (by rw [z]; rfl)
                      refine lv_aload_n hx hb dX4_about_125 rfl (lv_at hl 0 rfl) ?_
                      refine lv_iload_n hx hb dX4_about_126 rfl (lv_at hl 1 rfl) ?_
                      refine lv_aload_n hx hb dX4_about_127 rfl (lv_at hl 0 rfl) ?_
                      refine gM0_now hF hW q1104 (v := nI (cN S.1)) (m10) dX4_about_128 ?_
                      refine cl_i (ru_V (As := [.int (nI k0), .int (nI (cN S.1))]) (rest := []) hF (mX4_endOf l G ad (xi y 0 0) W0 T hT S n9 hS hn9 ⟨m0, m1, m2, m3, m4, m5, m6, m7, m8, m9, m10, m11, m12, m13, m14, m15, m16, m17, m18, m19, m20, m21, m22⟩ k0 hk0 (nI (cN S.1))) (cwV 2 hts (lw_V q1414 q1416 qs53 q66 q1417) rfl rfl rfl (by decide +kernel) ⟨lb hR1 rfl, lb hR4 rfl⟩) hW (List.mem_of_getElem? (i := 0) rfl) (ci := 20) rfl rfl rfl hl.1 rfl (lv_room (Nat.le_of_ble_eq_true rfl)) dX4_about_131 ⟨by omega, by omega⟩) hW (fun r_1 u_2 H locs h_3 hW => ?_)
                      obtain rfl : r_1 = endsF S.1 k0 (nI (cN S.1)) := h_3
                      have hW : pM G (MWl G ad (xi y 0 0) ++ W0) s _ _ := hW
                      exact re_i hF hRt hLk hQ (by omega) (by omega) dX4_about_134 (xi y 0 0) (⟨by unfold aboutS; rw [hi0]; exact (if_neg hg).symm, ⟨m0, m1, m2, m3, m4, m5, m6, m7, m8, m9, m10, m11, m12, m13, m14, m15, m16, m17, m18, m19, m20, m21, m22⟩⟩) hW
                    · have hg : ((cC S.1).getD k0 dC).2.2.2.2.1 = none := enc_m1 (gr_b hI hk0) c_118
                      refine lv_iconst (v := (-1)) hx hb dX4_about_121 (by decide) ?_
                      refine lv_goto (tgt := 134) hx hb dX4_about_122 (by decide) ?_
                      exact re_i hF hRt hLk hQ (by omega) (by omega) dX4_about_134 (xi y 0 0) (⟨by unfold aboutS; rw [hi0]; exact (if_pos hg).symm, ⟨m0, m1, m2, m3, m4, m5, m6, m7, m8, m9, m10, m11, m12, m13, m14, m15, m16, m17, m18, m19, m20, m21, m22⟩⟩) hW
                  · by_cases w_16_7 : a1 = 7
                    · subst w_16_7
                      refine lv_tableIn (tgt := 135) hx hb dX4_about_16 (by decide) (by decide) rfl rfl ?_
                      refine lv_aload_n hx hb dX4_about_135 rfl (lv_at hl 0 rfl) ?_
                      refine gM0_claimKnown hF hW q1118 dX4_about_136 ?_
                      refine lv_iload_n hx hb dX4_about_139 rfl (lv_at hl 1 rfl) ?_
                      refine lM14 hF hW (j := k0) (rfl) (by omega) (v := nI ((cC S.1).getD k0 dC).2.2.2.1) ((m9 k0 hk0).2.2.2.1) dX4_about_140 ?_
                      exact re_i hF hRt hLk hQ (by omega) (by omega) dX4_about_141 (xi y 0 0) (⟨by unfold aboutS; rw [hi0]; rfl, ⟨m0, m1, m2, m3, m4, m5, m6, m7, m8, m9, m10, m11, m12, m13, m14, m15, m16, m17, m18, m19, m20, m21, m22⟩⟩) hW
                    · refine lv_tableOut (tgt := 142) hx hb dX4_about_16 (sw_o (hi := 7) (fun k9 h9 => by match k9, h9 with | 0, _ => exact w_16_0 | 1, _ => exact w_16_1 | 2, _ => exact w_16_2 | 3, _ => exact w_16_3 | 4, _ => exact w_16_4 | 5, _ => exact w_16_5 | 6, _ => exact w_16_6 | 7, _ => exact w_16_7)) rfl ?_
                      refine lv_iconst (v := (-1)) hx hb dX4_about_142 (by decide) ?_
                      exact re_i hF hRt hLk hQ (by omega) (by omega) dX4_about_143 (xi y 0 0) (⟨by unfold aboutS; rw [hi0]; dsimp only; rw [if_neg w_16_0, if_neg w_16_1, if_neg w_16_2, if_neg w_16_3, if_neg w_16_4, if_neg w_16_5, if_neg w_16_6, if_neg w_16_7], ⟨m0, m1, m2, m3, m4, m5, m6, m7, m8, m9, m10, m11, m12, m13, m14, m15, m16, m17, m18, m19, m20, m21, m22⟩⟩) hW
    · exact absurd ((by rw [show (xi y 0 0).1 7 = nI (cC S.1).length from m8]; exact ix_in hi0 : 0 ≤ (nI k0) ∧ (nI k0) < (xi y 0 0).1 7)) h_

set_option maxRecDepth 100000 in
set_option maxHeartbeats 4000000 in
theorem mX4_narrower (l : Launch) (G : pG) (ad : Nat → Nat) (y : XV) (W0 T : va_W) (hT : ∀ q ∈ T, q ∈ W0) (S : AS) (n9 : Nat) (hS : SOk n9 S) (hn9 : n9 ≤ 64) (hMR : MR G T y S) (a0 a1 : Int32) : Met l yX4_narrower (ws_ yX4_narrower cX4_narrower 3 (some .int)) ({ frames := 22, cells := 0, slots := 0, locals := 1045 } : Room) (va_Pc [.ref (ad 0), .int a0, .int a1] (fun U => pW G (MWl G ad y ++ W0) U)) (va_Qi (fun r (u : XV) => r = (narrowerS S a0 a1).2 ∧ MR G T u (narrowerS S a0 a1).1) (fun (u : XV) t9 => pW G (MWl G ad u ++ W0) t9) (pA G)) 0 0 (pA G) := by
  refine mw (by decide) (Nat.le_of_ble_eq_true rfl) ?_
  intro pp ee R s m below meth c ls Q hF hRt hLk hnm hR hQ hW hl
  have hx := hF.1
  have hb := hF.2.1
  have hts := hF.2.2.2.2
  have hR1 : R.frames = 22 := by rw [hR]
  have hR2 : R.cells = 0 := by rw [hR]
  have hR3 : R.slots = 0 := by rw [hR]
  have hR4 : R.locals = 1045 := by rw [hR]
  have hl : lv_has ls 3 [(0, .ref (ad 0)), (1, .int a0), (2, .int a1)] := hl
  have hW : pM G (MWl G ad y ++ W0) s s.heap [] := hW
  obtain ⟨m0, m1, m2, m3, m4, m5, m6, m7, m8, m9, m10, m11, m12, m13, m14, m15, m16, m17, m18, m19, m20, m21, m22⟩ := hMR
  have hI := hS.inv
  have b0 := hI.1.1
  have b1 := hI.2.1.1
  have b2 := hI.2.2.1.1
  have b3 := hI.2.2.2.1.1
  have b4 := hI.2.2.2.2.1.1
  have b5 := hI.2.2.2.2.2
  have b6 := hS.2.1
  have b7 := hS.2.2.1
  have b8 := hS.2.2.2.1
  have b9 := hS.2.2.2.2.1
  cases hi0 : ix a0 (cC S.1).length with
  | none =>
    cases hi1 : ix a1 (cC S.1).length with
    | none =>
      refine lv_aload_n hx hb dX4_narrower_0 rfl (lv_at hl 0 rfl) ?_
      refine lv_iconst (v := 0) hx hb dX4_narrower_1 (by decide) ?_
      refine pM0_thrown hF hW q1095 dX4_narrower_2 (fun H locs hW => ?_)
      have hW : pM G (MWl G ad (xi y 0 0) ++ W0) s _ _ := hW
      refine lv_aload_n hx hb dX4_narrower_5 rfl (lv_at hl 0 rfl) ?_
      refine lv_iload_n hx hb dX4_narrower_6 rfl (lv_at hl 1 rfl) ?_
      refine cl_i (ru_V (As := [.int a0]) (rest := []) hF (mX4_isClaim l G ad (xi y 0 0) W0 a0) (cwV 1 hts (lw_V q1354 q1356 qs45 q66 q1357) rfl rfl rfl (by decide +kernel) ⟨lb hR1 rfl, lb hR4 rfl⟩) hW (List.mem_of_getElem? (i := 0) rfl) (ci := 20) rfl rfl rfl hl.1 rfl (lv_room (Nat.le_of_ble_eq_true rfl)) dX4_narrower_7 ⟨by omega, by omega⟩) hW (fun r_ u_ H locs h_ hW => ?_)
      have hW : pM G (MWl G ad (xi y 0 0) ++ W0) s _ _ := hW
      rcases h_ with ⟨rfl, h_⟩ | ⟨rfl, h_⟩
      · exact absurd h_ (fun z => ix_no hi0 (by rw [show (xi y 0 0).1 7 = nI (cC S.1).length from m8] at z; exact z))
      · refine lv_if_eq (tgt := 21) hx hb dX4_narrower_10 (by decide) (fun c_10 => ?_) (fun c_10 => absurd c_10 (by decide))
        refine lv_aload_n hx hb dX4_narrower_21 rfl (lv_at hl 0 rfl) ?_
        refine lv_iconst (v := 1) hx hb dX4_narrower_22 (by decide) ?_
        refine cl_i (ru_V (As := [.int 1]) (rest := []) hF (mX4_refused l G ad (xi y 0 0) W0 1) (cwV 1 hts (lw_V q1255 q1257 qs29 q66 q1258) rfl rfl rfl (by decide +kernel) ⟨lb hR1 rfl, lb hR4 rfl⟩) hW (List.mem_of_getElem? (i := 0) rfl) (ci := 20) rfl rfl rfl hl.1 rfl (lv_room (Nat.le_of_ble_eq_true rfl)) dX4_narrower_23 ⟨by omega, by omega⟩) hW (fun r_1 u_2 H locs h_3 hW => ?_)
        obtain ⟨rfl, rfl⟩ : r_1 = (-1) ∧ u_2 = _ := h_3
        have hW : pM G (MWl G ad (xi (xi (xi y 0 0) 1 1) 2 (-1)) ++ W0) s _ _ := hW
        exact re_i hF hRt hLk hQ (by omega) (by omega) dX4_narrower_26 (xi (xi (xi y 0 0) 1 1) 2 (-1)) (by unfold narrowerS; rw [hi0]; exact ⟨rfl, ⟨m0, m1, m2, m3, m4, m5, m6, m7, m8, m9, m10, m11, m12, m13, m14, rfl, m16, rfl, m18, m19, m20, m21, m22⟩⟩) hW
    | some k1 =>
      obtain ⟨hk1, rfl⟩ := ix_some hi1 (by omega)
      refine lv_aload_n hx hb dX4_narrower_0 rfl (lv_at hl 0 rfl) ?_
      refine lv_iconst (v := 0) hx hb dX4_narrower_1 (by decide) ?_
      refine pM0_thrown hF hW q1095 dX4_narrower_2 (fun H locs hW => ?_)
      have hW : pM G (MWl G ad (xi y 0 0) ++ W0) s _ _ := hW
      refine lv_aload_n hx hb dX4_narrower_5 rfl (lv_at hl 0 rfl) ?_
      refine lv_iload_n hx hb dX4_narrower_6 rfl (lv_at hl 1 rfl) ?_
      refine cl_i (ru_V (As := [.int a0]) (rest := []) hF (mX4_isClaim l G ad (xi y 0 0) W0 a0) (cwV 1 hts (lw_V q1354 q1356 qs45 q66 q1357) rfl rfl rfl (by decide +kernel) ⟨lb hR1 rfl, lb hR4 rfl⟩) hW (List.mem_of_getElem? (i := 0) rfl) (ci := 20) rfl rfl rfl hl.1 rfl (lv_room (Nat.le_of_ble_eq_true rfl)) dX4_narrower_7 ⟨by omega, by omega⟩) hW (fun r_ u_ H locs h_ hW => ?_)
      have hW : pM G (MWl G ad (xi y 0 0) ++ W0) s _ _ := hW
      rcases h_ with ⟨rfl, h_⟩ | ⟨rfl, h_⟩
      · exact absurd h_ (fun z => ix_no hi0 (by rw [show (xi y 0 0).1 7 = nI (cC S.1).length from m8] at z; exact z))
      · refine lv_if_eq (tgt := 21) hx hb dX4_narrower_10 (by decide) (fun c_10 => ?_) (fun c_10 => absurd c_10 (by decide))
        refine lv_aload_n hx hb dX4_narrower_21 rfl (lv_at hl 0 rfl) ?_
        refine lv_iconst (v := 1) hx hb dX4_narrower_22 (by decide) ?_
        refine cl_i (ru_V (As := [.int 1]) (rest := []) hF (mX4_refused l G ad (xi y 0 0) W0 1) (cwV 1 hts (lw_V q1255 q1257 qs29 q66 q1258) rfl rfl rfl (by decide +kernel) ⟨lb hR1 rfl, lb hR4 rfl⟩) hW (List.mem_of_getElem? (i := 0) rfl) (ci := 20) rfl rfl rfl hl.1 rfl (lv_room (Nat.le_of_ble_eq_true rfl)) dX4_narrower_23 ⟨by omega, by omega⟩) hW (fun r_4 u_5 H locs h_6 hW => ?_)
        obtain ⟨rfl, rfl⟩ : r_4 = (-1) ∧ u_5 = _ := h_6
        have hW : pM G (MWl G ad (xi (xi (xi y 0 0) 1 1) 2 (-1)) ++ W0) s _ _ := hW
        exact re_i hF hRt hLk hQ (by omega) (by omega) dX4_narrower_26 (xi (xi (xi y 0 0) 1 1) 2 (-1)) (by unfold narrowerS; rw [hi0]; exact ⟨rfl, ⟨m0, m1, m2, m3, m4, m5, m6, m7, m8, m9, m10, m11, m12, m13, m14, rfl, m16, rfl, m18, m19, m20, m21, m22⟩⟩) hW
  | some k0 =>
    obtain ⟨hk0, rfl⟩ := ix_some hi0 (by omega)
    cases hi1 : ix a1 (cC S.1).length with
    | none =>
      refine lv_aload_n hx hb dX4_narrower_0 rfl (lv_at hl 0 rfl) ?_
      refine lv_iconst (v := 0) hx hb dX4_narrower_1 (by decide) ?_
      refine pM0_thrown hF hW q1095 dX4_narrower_2 (fun H locs hW => ?_)
      have hW : pM G (MWl G ad (xi y 0 0) ++ W0) s _ _ := hW
      refine lv_aload_n hx hb dX4_narrower_5 rfl (lv_at hl 0 rfl) ?_
      refine lv_iload_n hx hb dX4_narrower_6 rfl (lv_at hl 1 rfl) ?_
      refine cl_i (ru_V (As := [.int (nI k0)]) (rest := []) hF (mX4_isClaim l G ad (xi y 0 0) W0 (nI k0)) (cwV 1 hts (lw_V q1354 q1356 qs45 q66 q1357) rfl rfl rfl (by decide +kernel) ⟨lb hR1 rfl, lb hR4 rfl⟩) hW (List.mem_of_getElem? (i := 0) rfl) (ci := 20) rfl rfl rfl hl.1 rfl (lv_room (Nat.le_of_ble_eq_true rfl)) dX4_narrower_7 ⟨by omega, by omega⟩) hW (fun r_ u_ H locs h_ hW => ?_)
      have hW : pM G (MWl G ad (xi y 0 0) ++ W0) s _ _ := hW
      rcases h_ with ⟨rfl, h_⟩ | ⟨rfl, h_⟩
      · refine lv_if_eq (tgt := 21) hx hb dX4_narrower_10 (by decide) (fun c_10 => absurd c_10 (by decide)) (fun c_10 => ?_)
        refine lv_aload_n hx hb dX4_narrower_13 rfl (lv_at hl 0 rfl) ?_
        refine lv_iload_n hx hb dX4_narrower_14 rfl (lv_at hl 2 rfl) ?_
        refine cl_i (ru_V (As := [.int a1]) (rest := []) hF (mX4_isClaim l G ad (xi y 0 0) W0 a1) (cwV 1 hts (lw_V q1354 q1356 qs45 q66 q1357) rfl rfl rfl (by decide +kernel) ⟨lb hR1 rfl, lb hR4 rfl⟩) hW (List.mem_of_getElem? (i := 0) rfl) (ci := 20) rfl rfl rfl hl.1 rfl (lv_room (Nat.le_of_ble_eq_true rfl)) dX4_narrower_15 ⟨by omega, by omega⟩) hW (fun r_ u_ H locs h_ hW => ?_)
        have hW : pM G (MWl G ad (xi y 0 0) ++ W0) s _ _ := hW
        rcases h_ with ⟨rfl, h_⟩ | ⟨rfl, h_⟩
        · exact absurd h_ (fun z => ix_no hi1 (by rw [show (xi y 0 0).1 7 = nI (cC S.1).length from m8] at z; exact z))
        · refine lv_if_ne (tgt := 27) hx hb dX4_narrower_18 (by decide) (fun c_18 => absurd c_18 (by decide)) (fun c_18 => ?_)
          refine lv_aload_n hx hb dX4_narrower_21 rfl (lv_at hl 0 rfl) ?_
          refine lv_iconst (v := 1) hx hb dX4_narrower_22 (by decide) ?_
          refine cl_i (ru_V (As := [.int 1]) (rest := []) hF (mX4_refused l G ad (xi y 0 0) W0 1) (cwV 1 hts (lw_V q1255 q1257 qs29 q66 q1258) rfl rfl rfl (by decide +kernel) ⟨lb hR1 rfl, lb hR4 rfl⟩) hW (List.mem_of_getElem? (i := 0) rfl) (ci := 20) rfl rfl rfl hl.1 rfl (lv_room (Nat.le_of_ble_eq_true rfl)) dX4_narrower_23 ⟨by omega, by omega⟩) hW (fun r_7 u_8 H locs h_9 hW => ?_)
          obtain ⟨rfl, rfl⟩ : r_7 = (-1) ∧ u_8 = _ := h_9
          have hW : pM G (MWl G ad (xi (xi (xi y 0 0) 1 1) 2 (-1)) ++ W0) s _ _ := hW
          exact re_i hF hRt hLk hQ (by omega) (by omega) dX4_narrower_26 (xi (xi (xi y 0 0) 1 1) 2 (-1)) (by unfold narrowerS; rw [hi0, hi1]; exact ⟨rfl, ⟨m0, m1, m2, m3, m4, m5, m6, m7, m8, m9, m10, m11, m12, m13, m14, rfl, m16, rfl, m18, m19, m20, m21, m22⟩⟩) hW
      · exact absurd ((by rw [show (xi y 0 0).1 7 = nI (cC S.1).length from m8]; exact ix_in hi0 : 0 ≤ (nI k0) ∧ (nI k0) < (xi y 0 0).1 7)) h_
    | some k1 =>
      obtain ⟨hk1, rfl⟩ := ix_some hi1 (by omega)
      refine lv_aload_n hx hb dX4_narrower_0 rfl (lv_at hl 0 rfl) ?_
      refine lv_iconst (v := 0) hx hb dX4_narrower_1 (by decide) ?_
      refine pM0_thrown hF hW q1095 dX4_narrower_2 (fun H locs hW => ?_)
      have hW : pM G (MWl G ad (xi y 0 0) ++ W0) s _ _ := hW
      refine lv_aload_n hx hb dX4_narrower_5 rfl (lv_at hl 0 rfl) ?_
      refine lv_iload_n hx hb dX4_narrower_6 rfl (lv_at hl 1 rfl) ?_
      refine cl_i (ru_V (As := [.int (nI k0)]) (rest := []) hF (mX4_isClaim l G ad (xi y 0 0) W0 (nI k0)) (cwV 1 hts (lw_V q1354 q1356 qs45 q66 q1357) rfl rfl rfl (by decide +kernel) ⟨lb hR1 rfl, lb hR4 rfl⟩) hW (List.mem_of_getElem? (i := 0) rfl) (ci := 20) rfl rfl rfl hl.1 rfl (lv_room (Nat.le_of_ble_eq_true rfl)) dX4_narrower_7 ⟨by omega, by omega⟩) hW (fun r_ u_ H locs h_ hW => ?_)
      have hW : pM G (MWl G ad (xi y 0 0) ++ W0) s _ _ := hW
      rcases h_ with ⟨rfl, h_⟩ | ⟨rfl, h_⟩
      · refine lv_if_eq (tgt := 21) hx hb dX4_narrower_10 (by decide) (fun c_10 => absurd c_10 (by decide)) (fun c_10 => ?_)
        refine lv_aload_n hx hb dX4_narrower_13 rfl (lv_at hl 0 rfl) ?_
        refine lv_iload_n hx hb dX4_narrower_14 rfl (lv_at hl 2 rfl) ?_
        refine cl_i (ru_V (As := [.int (nI k1)]) (rest := []) hF (mX4_isClaim l G ad (xi y 0 0) W0 (nI k1)) (cwV 1 hts (lw_V q1354 q1356 qs45 q66 q1357) rfl rfl rfl (by decide +kernel) ⟨lb hR1 rfl, lb hR4 rfl⟩) hW (List.mem_of_getElem? (i := 0) rfl) (ci := 20) rfl rfl rfl hl.1 rfl (lv_room (Nat.le_of_ble_eq_true rfl)) dX4_narrower_15 ⟨by omega, by omega⟩) hW (fun r_ u_ H locs h_ hW => ?_)
        have hW : pM G (MWl G ad (xi y 0 0) ++ W0) s _ _ := hW
        rcases h_ with ⟨rfl, h_⟩ | ⟨rfl, h_⟩
        · refine lv_if_ne (tgt := 27) hx hb dX4_narrower_18 (by decide) (fun c_18 => ?_) (fun c_18 => absurd c_18 (by decide))
          refine lv_aload_n hx hb dX4_narrower_27 rfl (lv_at hl 0 rfl) ?_
          refine lv_aload_n hx hb dX4_narrower_28 rfl (lv_at hl 0 rfl) ?_
          refine lv_aload_n hx hb dX4_narrower_29 rfl (lv_at hl 0 rfl) ?_
          refine gM0_claim hF hW q1110 dX4_narrower_30 ?_
          refine lv_iload_n hx hb dX4_narrower_33 rfl (lv_at hl 1 rfl) ?_
          obtain ⟨qa, hqa1, hqa2⟩ := (m9 k0 hk0).1
          refine lM6 hF hW (j := k0) (rfl) (by omega) (r := qa) (hqa1) dX4_narrower_34 ?_
          refine lv_aload_n hx hb dX4_narrower_35 rfl (lv_at hl 0 rfl) ?_
          refine gM0_claim hF hW q1110 dX4_narrower_36 ?_
          refine lv_iload_n hx hb dX4_narrower_39 rfl (lv_at hl 2 rfl) ?_
          obtain ⟨qb, hqb1, hqb2⟩ := (m9 k1 hk1).1
          refine lM6 hF hW (j := k1) (rfl) (by omega) (r := qb) (hqb1) dX4_narrower_40 ?_
          have hW : pM G (MWl G ad (mfx (xi y 0 0) ((xi y 0 0).1 17) ((xi y 0 0).2.1 14) ((xi y 0 0).2.1 15)) ++ W0) s _ _ := hW
          refine cl_i (ru_V (As := [.ref qa, .ref qb]) (rest := [.ref (ad 0)]) hF (mX4_discloses l G ad (xi y 0 0) W0 ((xi y 0 0).1 17) ((xi y 0 0).2.1 14) ((xi y 0 0).2.1 15) qb qa (((cC S.1).getD k1 dC).1) (((cC S.1).getD k0 dC).1) (hqb2.u.mono hT) (hqa2.u.mono hT) (cW S.1).length (WdOk.cg m1.2 (wdF_ok hI)) b0 ((hI.2.2.2.2.1.2 k1 hk1).1.wide) ((hI.2.2.2.2.1.2 k0 hk0).1.wide)) (cwV 2 hts (lw_V q1362 q1364 qs46 q66 q1365) rfl rfl rfl (by decide +kernel) ⟨lb hR1 rfl, lb hR4 rfl⟩) hW (List.mem_of_getElem? (i := 0) rfl) (ci := 20) rfl rfl rfl hl.1 rfl (lv_room (Nat.le_of_ble_eq_true rfl)) dX4_narrower_41 ⟨by omega, by omega⟩) hW (fun r_ u_ H locs h_ hW => ?_)
          obtain ⟨w2, go2, fi2⟩ := u_
          have hW : pM G (MWl G ad (mfx (xi y 0 0) w2 go2 fi2) ++ W0) s _ _ := hW
          rcases h_ with ⟨rfl, hd⟩ | ⟨rfl, hd⟩
          · have hd : disA S.1 (((cC S.1).getD k0 dC).1) (((cC S.1).getD k1 dC).1) = true := by unfold disA; rw [← disB_cg (wd := wdF S.1) m1.2 (wdF_ok hI) b0 ((hI.2.2.2.2.1.2 k0 hk0).1.wide)]; exact hd
            refine lv_if_eq (tgt := 51) hx hb dX4_narrower_44 (by decide) (fun c_44 => absurd c_44 (by decide)) (fun c_44 => ?_)
            refine lv_iconst (v := 1) hx hb dX4_narrower_47 (by decide) ?_
            refine lv_goto (tgt := 52) hx hb dX4_narrower_48 (by decide) ?_
            refine cl_i (ru_V (As := [.int 1]) (rest := []) hF (mX4_done l G ad (mfx (xi y 0 0) w2 go2 fi2) W0 1) (cwV 1 hts (lw_V q1287 q1289 qs36 q66 q1290) rfl rfl rfl (by decide +kernel) ⟨lb hR1 rfl, lb hR4 rfl⟩) hW (List.mem_of_getElem? (i := 0) rfl) (ci := 20) rfl rfl rfl hl.1 rfl (lv_room (Nat.le_of_ble_eq_true rfl)) dX4_narrower_52 ⟨by omega, by omega⟩) hW (fun r_10 u_11 H locs h_12 hW => ?_)
            obtain ⟨rfl, rfl⟩ : r_10 = 1 ∧ u_11 = _ := h_12
            have hW : pM G (MWl G ad (xi (xi (mfx (xi y 0 0) w2 go2 fi2) 1 0) 2 (-1)) ++ W0) s _ _ := hW
            exact re_i hF hRt hLk hQ (by omega) (by omega) dX4_narrower_55 (xi (xi (mfx (xi y 0 0) w2 go2 fi2) 1 0) 2 (-1)) (by unfold narrowerS; rw [hi0, hi1]; dsimp only; rw [if_pos hd]; exact ⟨rfl, ⟨m0, m1, m2, m3, m4, m5, m6, m7, m8, m9, m10, m11, m12, m13, m14, rfl, m16, rfl, m18, m19, m20, m21, m22⟩⟩) hW
          · have hd : disA S.1 (((cC S.1).getD k0 dC).1) (((cC S.1).getD k1 dC).1) = false := by unfold disA; rw [← disB_cg (wd := wdF S.1) m1.2 (wdF_ok hI) b0 ((hI.2.2.2.2.1.2 k0 hk0).1.wide)]; exact hd
            refine lv_if_eq (tgt := 51) hx hb dX4_narrower_44 (by decide) (fun c_44 => ?_) (fun c_44 => absurd c_44 (by decide))
            refine lv_iconst (v := 0) hx hb dX4_narrower_51 (by decide) ?_
            refine cl_i (ru_V (As := [.int 0]) (rest := []) hF (mX4_done l G ad (mfx (xi y 0 0) w2 go2 fi2) W0 0) (cwV 1 hts (lw_V q1287 q1289 qs36 q66 q1290) rfl rfl rfl (by decide +kernel) ⟨lb hR1 rfl, lb hR4 rfl⟩) hW (List.mem_of_getElem? (i := 0) rfl) (ci := 20) rfl rfl rfl hl.1 rfl (lv_room (Nat.le_of_ble_eq_true rfl)) dX4_narrower_52 ⟨by omega, by omega⟩) hW (fun r_13 u_14 H locs h_15 hW => ?_)
            obtain ⟨rfl, rfl⟩ : r_13 = 0 ∧ u_14 = _ := h_15
            have hW : pM G (MWl G ad (xi (xi (mfx (xi y 0 0) w2 go2 fi2) 1 0) 2 (-1)) ++ W0) s _ _ := hW
            exact re_i hF hRt hLk hQ (by omega) (by omega) dX4_narrower_55 (xi (xi (mfx (xi y 0 0) w2 go2 fi2) 1 0) 2 (-1)) (by unfold narrowerS; rw [hi0, hi1]; dsimp only; rw [if_neg (by rw [hd]; decide)]; exact ⟨rfl, ⟨m0, m1, m2, m3, m4, m5, m6, m7, m8, m9, m10, m11, m12, m13, m14, rfl, m16, rfl, m18, m19, m20, m21, m22⟩⟩) hW
        · exact absurd ((by rw [show (xi y 0 0).1 7 = nI (cC S.1).length from m8]; exact ix_in hi1 : 0 ≤ (nI k1) ∧ (nI k1) < (xi y 0 0).1 7)) h_
      · exact absurd ((by rw [show (xi y 0 0).1 7 = nI (cC S.1).length from m8]; exact ix_in hi0 : 0 ≤ (nI k0) ∧ (nI k0) < (xi y 0 0).1 7)) h_

set_option maxRecDepth 100000 in
set_option maxHeartbeats 4000000 in
theorem mX4_isAhead (l : Launch) (G : pG) (ad : Nat → Nat) (y : XV) (W0 T : va_W) (hT : ∀ q ∈ T, q ∈ W0) (S : AS) (n9 : Nat) (hS : SOk n9 S) (hn9 : n9 ≤ 64) (hMR : MR G T y S) (p day kn : Nat) (hp : p < (cP S.1).length) (hd : day < 2147483648) (hkn : kn < 2147483648) : Met l yX4_isAhead (ws_ yX4_isAhead cX4_isAhead 4 (some .boolean)) ({ frames := 0, cells := 0, slots := 0, locals := 0 } : Room) (va_Pc [.ref (ad 0), .int (nI p), .int (nI day), .int (nI kn)] (fun U => pW G (MWl G ad y ++ W0) U)) (va_Qi (fun r (_ : Unit) => (r = 1 ∧ cntB S.1 p day kn = true) ∨ (r = 0 ∧ cntB S.1 p day kn = false)) (fun (u : Unit) t9 => pW G (MWl G ad y ++ W0) t9) (pA G)) 0 0 (pA G) := by
  refine mw (by decide) (Nat.le_of_ble_eq_true rfl) ?_
  intro pp ee R s m below meth c ls Q hF hRt hLk hnm hR hQ hW hl
  have hx := hF.1
  have hb := hF.2.1
  have hts := hF.2.2.2.2
  have hR1 : R.frames = 0 := by rw [hR]
  have hR2 : R.cells = 0 := by rw [hR]
  have hR3 : R.slots = 0 := by rw [hR]
  have hR4 : R.locals = 0 := by rw [hR]
  have hl : lv_has ls 4 [(0, .ref (ad 0)), (1, .int (nI p)), (2, .int (nI day)), (3, .int (nI kn))] := hl
  have hW : pM G (MWl G ad y ++ W0) s s.heap [] := hW
  obtain ⟨m0, m1, m2, m3, m4, m5, m6, m7, m8, m9, m10, m11, m12, m13, m14, m15, m16, m17, m18, m19, m20, m21, m22⟩ := hMR
  have hI := hS.inv
  have b0 := hI.1.1
  have b1 := hI.2.1.1
  have b2 := hI.2.2.1.1
  have b3 := hI.2.2.2.1.1
  have b4 := hI.2.2.2.2.1.1
  have b5 := hI.2.2.2.2.2
  have b6 := hS.2.1
  have b7 := hS.2.2.1
  have b8 := hS.2.2.2.1
  have b9 := hS.2.2.2.2.1
  have hpp := hI.2.1.2 _ (getD_mem (d := dP) hp)
  refine lv_aload_n hx hb dX4_isAhead_0 rfl (lv_at hl 0 rfl) ?_
  refine gM0_paperKnown hF hW q1112 dX4_isAhead_1 ?_
  refine lv_iload_n hx hb dX4_isAhead_4 rfl (lv_at hl 1 rfl) ?_
  refine lM8 hF hW (j := p) (rfl) (by omega) (v := nI ((cP S.1).getD p dP).2.2) ((m3 p hp).2.2) dX4_isAhead_5 ?_
  refine lv_iload_n hx hb dX4_isAhead_6 rfl (lv_at hl 3 rfl) ?_
  refine lv_icmp_gt (tgt := 24) hx hb dX4_isAhead_7 (by decide) (fun c_7 => ?_) (fun c_7 => ?_)
  · refine lv_iconst (v := 0) hx hb dX4_isAhead_24 (by decide) ?_
    exact re_z hF hRt hLk hQ (by omega) (by omega) (by decide) dX4_isAhead_25 () (Or.inr ⟨rfl, by unfold cntB; rw [decide_eq_false (fun z => by have := lt_lt c_7; omega)]; rfl⟩) hW
  · refine lv_aload_n hx hb dX4_isAhead_10 rfl (lv_at hl 0 rfl) ?_
    refine gM0_paperDay hF hW q1111 dX4_isAhead_11 ?_
    refine lv_iload_n hx hb dX4_isAhead_14 rfl (lv_at hl 1 rfl) ?_
    refine lM7 hF hW (j := p) (rfl) (by omega) (v := nI ((cP S.1).getD p dP).2.1) ((m3 p hp).2.1) dX4_isAhead_15 ?_
    refine lv_iload_n hx hb dX4_isAhead_16 rfl (lv_at hl 2 rfl) ?_
    refine lv_icmp_ge (tgt := 24) hx hb dX4_isAhead_17 (by decide) (fun c_17 => ?_) (fun c_17 => ?_)
    · refine lv_iconst (v := 0) hx hb dX4_isAhead_24 (by decide) ?_
      exact re_z hF hRt hLk hQ (by omega) (by omega) (by decide) dX4_isAhead_25 () (Or.inr ⟨rfl, by unfold cntB; rw [decide_eq_false (p := ((cP S.1).getD p dP).2.1 < day) (fun z => by have := le_le c_17; omega), Bool.and_false]⟩) hW
    · refine lv_iconst (v := 1) hx hb dX4_isAhead_20 (by decide) ?_
      refine lv_goto (tgt := 25) hx hb dX4_isAhead_21 (by decide) ?_
      exact re_z hF hRt hLk hQ (by omega) (by omega) (by decide) dX4_isAhead_25 () (Or.inl ⟨rfl, by unfold cntB; rw [decide_eq_true (nlt_le c_7), decide_eq_true (nle_lt c_17)]; rfl⟩) hW

theorem frc_no {c : Co} {k : Nat} {day kn : Int32} (hI : InvC c) (hk : k < (cC c).length) (h : kn < nI ((cC c).getD k dC).2.2.2.1) : frcB c k day kn = false := by
  apply decide_eq_false
  rintro ⟨h1, h2, -, -⟩
  cases e : ((cC c).getD k dC).2.2.2.2.1 with
  | none => rw [e] at h1; exact h1 rfl
  | some g =>
    have q := hI.2.2.2.2.1.2 k hk
    obtain ⟨q1, q2⟩ := q.2.2.2.2.1 g e
    rw [e] at h2
    have h2 : nI g ≤ kn := h2
    have h3 : nI g < nI ((cC c).getD k dC).2.2.2.1 := Int32.lt_of_le_of_lt h2 h
    have := lt_lt h3 (by omega) (by have := q.2.2.2.1; have := hI.2.2.2.2.2; omega)
    omega
set_option maxRecDepth 100000 in
set_option maxHeartbeats 4000000 in
theorem mX4_isForce (l : Launch) (G : pG) (ad : Nat → Nat) (y : XV) (W0 T : va_W) (hT : ∀ q ∈ T, q ∈ W0) (S : AS) (n9 : Nat) (hS : SOk n9 S) (hn9 : n9 ≤ 64) (hMR : MR G T y S) (k : Nat) (hk : k < (cC S.1).length) (day kn : Int32) : Met l yX4_isForce (ws_ yX4_isForce cX4_isForce 4 (some .boolean)) ({ frames := 2, cells := 0, slots := 0, locals := 44 } : Room) (va_Pc [.ref (ad 0), .int (nI k), .int day, .int kn] (fun U => pW G (MWl G ad y ++ W0) U)) (va_Qi (fun r (_ : Unit) => (r = 1 ∧ frcB S.1 k day kn = true) ∨ (r = 0 ∧ frcB S.1 k day kn = false)) (fun (u : Unit) t9 => pW G (MWl G ad y ++ W0) t9) (pA G)) 0 0 (pA G) := by
  refine mw (by decide) (Nat.le_of_ble_eq_true rfl) ?_
  intro pp ee R s m below meth c ls Q hF hRt hLk hnm hR hQ hW hl
  have hx := hF.1
  have hb := hF.2.1
  have hts := hF.2.2.2.2
  have hR1 : R.frames = 2 := by rw [hR]
  have hR2 : R.cells = 0 := by rw [hR]
  have hR3 : R.slots = 0 := by rw [hR]
  have hR4 : R.locals = 44 := by rw [hR]
  have hl : lv_has ls 4 [(0, .ref (ad 0)), (1, .int (nI k)), (2, .int day), (3, .int kn)] := hl
  have hW : pM G (MWl G ad y ++ W0) s s.heap [] := hW
  obtain ⟨m0, m1, m2, m3, m4, m5, m6, m7, m8, m9, m10, m11, m12, m13, m14, m15, m16, m17, m18, m19, m20, m21, m22⟩ := hMR
  have hI := hS.inv
  have b0 := hI.1.1
  have b1 := hI.2.1.1
  have b2 := hI.2.2.1.1
  have b3 := hI.2.2.2.1.1
  have b4 := hI.2.2.2.2.1.1
  have b5 := hI.2.2.2.2.2
  have b6 := hS.2.1
  have b7 := hS.2.2.1
  have b8 := hS.2.2.2.1
  have b9 := hS.2.2.2.2.1
  have hkk := hI.2.2.2.2.1.2 k hk
  refine lv_aload_n hx hb dX4_isForce_0 rfl (lv_at hl 0 rfl) ?_
  refine gM0_claimKnown hF hW q1118 dX4_isForce_1 ?_
  refine lv_iload_n hx hb dX4_isForce_4 rfl (lv_at hl 1 rfl) ?_
  refine lM14 hF hW (j := k) (rfl) (by omega) (v := nI ((cC S.1).getD k dC).2.2.2.1) ((m9 k hk).2.2.2.1) dX4_isForce_5 ?_
  refine lv_iload_n hx hb dX4_isForce_6 rfl (lv_at hl 3 rfl) ?_
  refine lv_icmp_gt (tgt := 54) hx hb dX4_isForce_7 (by decide) (fun c_7 => ?_) (fun c_7 => ?_)
  · refine lv_iconst (v := 0) hx hb dX4_isForce_54 (by decide) ?_
    exact re_z hF hRt hLk hQ (by omega) (by omega) (by decide) dX4_isForce_55 () (Or.inr ⟨rfl, frc_no hI hk c_7⟩) hW
  · refine lv_aload_n hx hb dX4_isForce_10 rfl (lv_at hl 0 rfl) ?_
    refine gM0_grantDay hF hW q1119 dX4_isForce_11 ?_
    refine lv_iload_n hx hb dX4_isForce_14 rfl (lv_at hl 1 rfl) ?_
    refine lM15 hF hW (j := k) (rfl) (by omega) (v := enc ((cC S.1).getD k dC).2.2.2.2.1) ((m9 k hk).2.2.2.2.1) dX4_isForce_15 ?_
    refine lv_iconst (v := (-1)) hx hb dX4_isForce_16 (by decide) ?_
    refine lv_icmp_eq (tgt := 54) hx hb dX4_isForce_17 (by decide) (fun c_17 => ?_) (fun c_17 => ?_)
    · refine lv_iconst (v := 0) hx hb dX4_isForce_54 (by decide) ?_
      exact re_z hF hRt hLk hQ (by omega) (by omega) (by decide) dX4_isForce_55 () (Or.inr ⟨rfl, decide_eq_false (fun z => z.1 c_17)⟩) hW
    · refine lv_aload_n hx hb dX4_isForce_20 rfl (lv_at hl 0 rfl) ?_
      refine gM0_grantDay hF hW q1119 dX4_isForce_21 ?_
      refine lv_iload_n hx hb dX4_isForce_24 rfl (lv_at hl 1 rfl) ?_
      refine lM15 hF hW (j := k) (rfl) (by omega) (v := enc ((cC S.1).getD k dC).2.2.2.2.1) ((m9 k hk).2.2.2.2.1) dX4_isForce_25 ?_
      refine lv_iload_n hx hb dX4_isForce_26 rfl (lv_at hl 3 rfl) ?_
      refine lv_icmp_gt (tgt := 54) hx hb dX4_isForce_27 (by decide) (fun c_27 => ?_) (fun c_27 => ?_)
      · refine lv_iconst (v := 0) hx hb dX4_isForce_54 (by decide) ?_
        exact re_z hF hRt hLk hQ (by omega) (by omega) (by decide) dX4_isForce_55 () (Or.inr ⟨rfl, decide_eq_false (fun z => absurd z.2.1 (Int32.not_le.mpr c_27))⟩) hW
      · refine lv_aload_n hx hb dX4_isForce_30 rfl (lv_at hl 0 rfl) ?_
        refine gM0_grantDay hF hW q1119 dX4_isForce_31 ?_
        refine lv_iload_n hx hb dX4_isForce_34 rfl (lv_at hl 1 rfl) ?_
        refine lM15 hF hW (j := k) (rfl) (by omega) (v := enc ((cC S.1).getD k dC).2.2.2.2.1) ((m9 k hk).2.2.2.2.1) dX4_isForce_35 ?_
        refine lv_iload_n hx hb dX4_isForce_36 rfl (lv_at hl 2 rfl) ?_
        refine lv_icmp_gt (tgt := 54) hx hb dX4_isForce_37 (by decide) (fun c_37 => ?_) (fun c_37 => ?_)
        · refine lv_iconst (v := 0) hx hb dX4_isForce_54 (by decide) ?_
          exact re_z hF hRt hLk hQ (by omega) (by omega) (by decide) dX4_isForce_55 () (Or.inr ⟨rfl, decide_eq_false (fun z => absurd z.2.2.1 (Int32.not_le.mpr c_37))⟩) hW
        · refine lv_iload_n hx hb dX4_isForce_40 rfl (lv_at hl 2 rfl) ?_
          refine lv_aload_n hx hb dX4_isForce_41 rfl (lv_at hl 0 rfl) ?_
          refine lv_iload_n hx hb dX4_isForce_42 rfl (lv_at hl 1 rfl) ?_
          refine lv_iload_n hx hb dX4_isForce_43 rfl (lv_at hl 3 rfl) ?_
          refine cl_i (ru_V (As := [.int (nI k), .int kn]) (rest := [.int day]) hF (mX4_endOf l G ad y W0 T hT S n9 hS hn9 ⟨m0, m1, m2, m3, m4, m5, m6, m7, m8, m9, m10, m11, m12, m13, m14, m15, m16, m17, m18, m19, m20, m21, m22⟩ k hk kn) (cwV 2 hts (lw_V q1414 q1416 qs53 q66 q1417) rfl rfl rfl (by decide +kernel) ⟨lb hR1 rfl, lb hR4 rfl⟩) hW (List.mem_of_getElem? (i := 0) rfl) (ci := 20) rfl rfl rfl hl.1 rfl (lv_room (Nat.le_of_ble_eq_true rfl)) dX4_isForce_44 ⟨by omega, by omega⟩) hW (fun r_1 u_2 H locs h_3 hW => ?_)
          obtain rfl : r_1 = endsF S.1 k kn := h_3
          have hW : pM G (MWl G ad y ++ W0) s _ _ := hW
          refine lv_icmp_ge (tgt := 54) hx hb dX4_isForce_47 (by decide) (fun c_47 => ?_) (fun c_47 => ?_)
          · refine lv_iconst (v := 0) hx hb dX4_isForce_54 (by decide) ?_
            exact re_z hF hRt hLk hQ (by omega) (by omega) (by decide) dX4_isForce_55 () (Or.inr ⟨rfl, decide_eq_false (fun z => absurd z.2.2.2 (Int32.not_lt.mpr c_47))⟩) hW
          · refine lv_iconst (v := 1) hx hb dX4_isForce_50 (by decide) ?_
            refine lv_goto (tgt := 55) hx hb dX4_isForce_51 (by decide) ?_
            exact re_z hF hRt hLk hQ (by omega) (by omega) (by decide) dX4_isForce_55 () (Or.inl ⟨rfl, decide_eq_true ⟨c_17, Int32.not_lt.mp c_27, Int32.not_lt.mp c_37, Int32.not_le.mp c_47⟩⟩) hW

set_option maxRecDepth 100000 in
set_option maxHeartbeats 4000000 in
theorem mX4_force (l : Launch) (G : pG) (ad : Nat → Nat) (y : XV) (W0 T : va_W) (hT : ∀ q ∈ T, q ∈ W0) (S : AS) (n9 : Nat) (hS : SOk n9 S) (hn9 : n9 ≤ 64) (hMR : MR G T y S) (a0 a1 a2 : Int32) : Met l yX4_force (ws_ yX4_force cX4_force 4 (some .int)) ({ frames := 3, cells := 0, slots := 0, locals := 67 } : Room) (va_Pc [.ref (ad 0), .int a0, .int a1, .int a2] (fun U => pW G (MWl G ad y ++ W0) U)) (va_Qi (fun r (u : XV × AS) => forceS S a0 a1 a2 u.2 r ∧ MR G T u.1 u.2) (fun (u : XV × AS) t9 => pW G (MWl G ad u.1 ++ W0) t9) (pA G)) 0 0 (pA G) := by
  refine mw (by decide) (Nat.le_of_ble_eq_true rfl) ?_
  intro pp ee R s m below meth c ls Q hF hRt hLk hnm hR hQ hW hl
  have hx := hF.1
  have hb := hF.2.1
  have hts := hF.2.2.2.2
  have hR1 : R.frames = 3 := by rw [hR]
  have hR2 : R.cells = 0 := by rw [hR]
  have hR3 : R.slots = 0 := by rw [hR]
  have hR4 : R.locals = 67 := by rw [hR]
  have hl : lv_has ls 4 [(0, .ref (ad 0)), (1, .int a0), (2, .int a1), (3, .int a2)] := hl
  have hW : pM G (MWl G ad y ++ W0) s s.heap [] := hW
  obtain ⟨m0, m1, m2, m3, m4, m5, m6, m7, m8, m9, m10, m11, m12, m13, m14, m15, m16, m17, m18, m19, m20, m21, m22⟩ := hMR
  have hI := hS.inv
  have b0 := hI.1.1
  have b1 := hI.2.1.1
  have b2 := hI.2.2.1.1
  have b3 := hI.2.2.2.1.1
  have b4 := hI.2.2.2.2.1.1
  have b5 := hI.2.2.2.2.2
  have b6 := hS.2.1
  have b7 := hS.2.2.1
  have b8 := hS.2.2.2.1
  have b9 := hS.2.2.2.2.1
  cases hi0 : ix a0 (cC S.1).length with
  | none =>
    refine lv_aload_n hx hb dX4_force_0 rfl (lv_at hl 0 rfl) ?_
    refine lv_iconst (v := 0) hx hb dX4_force_1 (by decide) ?_
    refine pM0_thrown hF hW q1095 dX4_force_2 (fun H locs hW => ?_)
    have hW : pM G (MWl G ad (xi y 0 0) ++ W0) s _ _ := hW
    refine lv_aload_n hx hb dX4_force_5 rfl (lv_at hl 0 rfl) ?_
    refine lv_iload_n hx hb dX4_force_6 rfl (lv_at hl 1 rfl) ?_
    refine cl_i (ru_V (As := [.int a0]) (rest := []) hF (mX4_isClaim l G ad (xi y 0 0) W0 a0) (cwV 1 hts (lw_V q1354 q1356 qs45 q66 q1357) rfl rfl rfl (by decide +kernel) ⟨lb hR1 rfl, lb hR4 rfl⟩) hW (List.mem_of_getElem? (i := 0) rfl) (ci := 20) rfl rfl rfl hl.1 rfl (lv_room (Nat.le_of_ble_eq_true rfl)) dX4_force_7 ⟨by omega, by omega⟩) hW (fun r_ u_ H locs h_ hW => ?_)
    have hW : pM G (MWl G ad (xi y 0 0) ++ W0) s _ _ := hW
    rcases h_ with ⟨rfl, h_⟩ | ⟨rfl, h_⟩
    · exact absurd h_ (fun z => ix_no hi0 (by rw [show (xi y 0 0).1 7 = nI (cC S.1).length from m8] at z; exact z))
    · refine lv_if_ne (tgt := 19) hx hb dX4_force_10 (by decide) (fun c_10 => absurd c_10 (by decide)) (fun c_10 => ?_)
      refine lv_aload_n hx hb dX4_force_13 rfl (lv_at hl 0 rfl) ?_
      refine lv_iconst (v := 1) hx hb dX4_force_14 (by decide) ?_
      refine cl_i (ru_V (As := [.int 1]) (rest := []) hF (mX4_refused l G ad (xi y 0 0) W0 1) (cwV 1 hts (lw_V q1255 q1257 qs29 q66 q1258) rfl rfl rfl (by decide +kernel) ⟨lb hR1 rfl, lb hR4 rfl⟩) hW (List.mem_of_getElem? (i := 0) rfl) (ci := 20) rfl rfl rfl hl.1 rfl (lv_room (Nat.le_of_ble_eq_true rfl)) dX4_force_15 ⟨by omega, by omega⟩) hW (fun r_1 u_2 H locs h_3 hW => ?_)
      obtain ⟨rfl, rfl⟩ : r_1 = (-1) ∧ u_2 = _ := h_3
      have hW : pM G (MWl G ad (xi (xi (xi y 0 0) 1 1) 2 (-1)) ++ W0) s _ _ := hW
      exact re_i hF hRt hLk hQ (by omega) (by omega) dX4_force_18 ((xi (xi (xi y 0 0) 1 1) 2 (-1)), (rfS S 1).1) (⟨by unfold forceS; rw [hi0]; rfl, ⟨m0, m1, m2, m3, m4, m5, m6, m7, m8, m9, m10, m11, m12, m13, m14, rfl, m16, rfl, m18, m19, m20, m21, m22⟩⟩) hW
  | some k0 =>
    obtain ⟨hk0, rfl⟩ := ix_some hi0 (by omega)
    refine lv_aload_n hx hb dX4_force_0 rfl (lv_at hl 0 rfl) ?_
    refine lv_iconst (v := 0) hx hb dX4_force_1 (by decide) ?_
    refine pM0_thrown hF hW q1095 dX4_force_2 (fun H locs hW => ?_)
    have hW : pM G (MWl G ad (xi y 0 0) ++ W0) s _ _ := hW
    refine lv_aload_n hx hb dX4_force_5 rfl (lv_at hl 0 rfl) ?_
    refine lv_iload_n hx hb dX4_force_6 rfl (lv_at hl 1 rfl) ?_
    refine cl_i (ru_V (As := [.int (nI k0)]) (rest := []) hF (mX4_isClaim l G ad (xi y 0 0) W0 (nI k0)) (cwV 1 hts (lw_V q1354 q1356 qs45 q66 q1357) rfl rfl rfl (by decide +kernel) ⟨lb hR1 rfl, lb hR4 rfl⟩) hW (List.mem_of_getElem? (i := 0) rfl) (ci := 20) rfl rfl rfl hl.1 rfl (lv_room (Nat.le_of_ble_eq_true rfl)) dX4_force_7 ⟨by omega, by omega⟩) hW (fun r_ u_ H locs h_ hW => ?_)
    have hW : pM G (MWl G ad (xi y 0 0) ++ W0) s _ _ := hW
    rcases h_ with ⟨rfl, h_⟩ | ⟨rfl, h_⟩
    · refine lv_if_ne (tgt := 19) hx hb dX4_force_10 (by decide) (fun c_10 => ?_) (fun c_10 => absurd c_10 (by decide))
      refine lv_iload_n hx hb dX4_force_19 rfl (lv_at hl 2 rfl) ?_
      refine lv_iconst (v := 0) hx hb dX4_force_20 (by decide) ?_
      refine lv_sipush (v := 20000) hx hb dX4_force_21 (by decide) ?_
      refine cl_i (ru_S (As := [.int a1, .int 0, .int 20000]) (rest := []) hF (mX4_in l G (MWl G ad (xi y 0 0) ++ W0) a1 0 20000) (va_cwS 3 hts (lw_S q1307 q1308 q66 q1309) rfl rfl rfl (by decide +kernel) ⟨lb hR1 rfl, lb hR4 rfl⟩) hW rfl rfl hl.1 rfl (lv_room (Nat.le_of_ble_eq_true rfl)) dX4_force_24 ⟨by omega, by omega⟩) hW (fun r_4 u_5 H locs h_6 hW => ?_)
      have hW : pM G (MWl G ad (xi y 0 0) ++ W0) s _ _ := hW
      rcases h_6 with ⟨rfl, b_24⟩ | ⟨rfl, b_24⟩
      · refine lv_if_eq (tgt := 41) hx hb dX4_force_27 (by decide) (fun c_27 => absurd c_27 (by decide)) (fun c_27 => ?_)
        refine lv_iload_n hx hb dX4_force_30 rfl (lv_at hl 3 rfl) ?_
        refine lv_iconst (v := 0) hx hb dX4_force_31 (by decide) ?_
        refine lv_sipush (v := 20000) hx hb dX4_force_32 (by decide) ?_
        refine cl_i (ru_S (As := [.int a2, .int 0, .int 20000]) (rest := []) hF (mX4_in l G (MWl G ad (xi y 0 0) ++ W0) a2 0 20000) (va_cwS 3 hts (lw_S q1307 q1308 q66 q1309) rfl rfl rfl (by decide +kernel) ⟨lb hR1 rfl, lb hR4 rfl⟩) hW rfl rfl hl.1 rfl (lv_room (Nat.le_of_ble_eq_true rfl)) dX4_force_35 ⟨by omega, by omega⟩) hW (fun r_7 u_8 H locs h_9 hW => ?_)
        have hW : pM G (MWl G ad (xi y 0 0) ++ W0) s _ _ := hW
        rcases h_9 with ⟨rfl, b_35⟩ | ⟨rfl, b_35⟩
        · refine lv_if_ne (tgt := 47) hx hb dX4_force_38 (by decide) (fun c_38 => ?_) (fun c_38 => absurd c_38 (by decide))
          refine lv_aload_n hx hb dX4_force_47 rfl (lv_at hl 0 rfl) ?_
          refine lv_aload_n hx hb dX4_force_48 rfl (lv_at hl 0 rfl) ?_
          refine lv_iload_n hx hb dX4_force_49 rfl (lv_at hl 1 rfl) ?_
          refine lv_iload_n hx hb dX4_force_50 rfl (lv_at hl 2 rfl) ?_
          refine lv_iload_n hx hb dX4_force_51 rfl (lv_at hl 3 rfl) ?_
          refine cl_i (ru_V (As := [.int (nI k0), .int a1, .int a2]) (rest := [.ref (ad 0)]) hF (mX4_isForce l G ad (xi y 0 0) W0 T hT S n9 hS hn9 ⟨m0, m1, m2, m3, m4, m5, m6, m7, m8, m9, m10, m11, m12, m13, m14, m15, m16, m17, m18, m19, m20, m21, m22⟩ k0 hk0 a1 a2) (cwV 3 hts (lw_V q1467 q1469 qs57 q66 q1470) rfl rfl rfl (by decide +kernel) ⟨lb hR1 rfl, lb hR4 rfl⟩) hW (List.mem_of_getElem? (i := 0) rfl) (ci := 20) rfl rfl rfl hl.1 rfl (lv_room (Nat.le_of_ble_eq_true rfl)) dX4_force_52 ⟨by omega, by omega⟩) hW (fun r_10 u_11 H locs h_12 hW => ?_)
          have hW : pM G (MWl G ad (xi y 0 0) ++ W0) s _ _ := hW
          rcases h_12 with ⟨rfl, b_52⟩ | ⟨rfl, b_52⟩
          · refine lv_if_eq (tgt := 62) hx hb dX4_force_55 (by decide) (fun c_55 => absurd c_55 (by decide)) (fun c_55 => ?_)
            refine lv_iconst (v := 1) hx hb dX4_force_58 (by decide) ?_
            refine lv_goto (tgt := 63) hx hb dX4_force_59 (by decide) ?_
            refine cl_i (ru_V (As := [.int 1]) (rest := []) hF (mX4_done l G ad (xi y 0 0) W0 1) (cwV 1 hts (lw_V q1287 q1289 qs36 q66 q1290) rfl rfl rfl (by decide +kernel) ⟨lb hR1 rfl, lb hR4 rfl⟩) hW (List.mem_of_getElem? (i := 0) rfl) (ci := 20) rfl rfl rfl hl.1 rfl (lv_room (Nat.le_of_ble_eq_true rfl)) dX4_force_63 ⟨by omega, by omega⟩) hW (fun r_13 u_14 H locs h_15 hW => ?_)
            obtain ⟨rfl, rfl⟩ : r_13 = 1 ∧ u_14 = _ := h_15
            have hW : pM G (MWl G ad (xi (xi (xi y 0 0) 1 0) 2 (-1)) ++ W0) s _ _ := hW
            exact re_i hF hRt hLk hQ (by omega) (by omega) dX4_force_66 ((xi (xi (xi y 0 0) 1 0) 2 (-1)), (stR S 0 (-1))) (⟨by unfold forceS; rw [hi0]; exact ⟨fun z => absurd ⟨b_24, b_35⟩ z, fun _ => by rw [if_pos b_52]⟩, ⟨m0, m1, m2, m3, m4, m5, m6, m7, m8, m9, m10, m11, m12, m13, m14, rfl, m16, rfl, m18, m19, m20, m21, m22⟩⟩) hW
          · refine lv_if_eq (tgt := 62) hx hb dX4_force_55 (by decide) (fun c_55 => ?_) (fun c_55 => absurd c_55 (by decide))
            refine lv_iconst (v := 0) hx hb dX4_force_62 (by decide) ?_
            refine cl_i (ru_V (As := [.int 0]) (rest := []) hF (mX4_done l G ad (xi y 0 0) W0 0) (cwV 1 hts (lw_V q1287 q1289 qs36 q66 q1290) rfl rfl rfl (by decide +kernel) ⟨lb hR1 rfl, lb hR4 rfl⟩) hW (List.mem_of_getElem? (i := 0) rfl) (ci := 20) rfl rfl rfl hl.1 rfl (lv_room (Nat.le_of_ble_eq_true rfl)) dX4_force_63 ⟨by omega, by omega⟩) hW (fun r_16 u_17 H locs h_18 hW => ?_)
            obtain ⟨rfl, rfl⟩ : r_16 = 0 ∧ u_17 = _ := h_18
            have hW : pM G (MWl G ad (xi (xi (xi y 0 0) 1 0) 2 (-1)) ++ W0) s _ _ := hW
            exact re_i hF hRt hLk hQ (by omega) (by omega) dX4_force_66 ((xi (xi (xi y 0 0) 1 0) 2 (-1)), (stR S 0 (-1))) (⟨by unfold forceS; rw [hi0]; exact ⟨fun z => absurd ⟨b_24, b_35⟩ z, fun _ => by rw [if_neg (by rw [b_52]; decide)]⟩, ⟨m0, m1, m2, m3, m4, m5, m6, m7, m8, m9, m10, m11, m12, m13, m14, rfl, m16, rfl, m18, m19, m20, m21, m22⟩⟩) hW
        · refine lv_if_ne (tgt := 47) hx hb dX4_force_38 (by decide) (fun c_38 => absurd c_38 (by decide)) (fun c_38 => ?_)
          refine lv_aload_n hx hb dX4_force_41 rfl (lv_at hl 0 rfl) ?_
          refine lv_iconst (v := 2) hx hb dX4_force_42 (by decide) ?_
          refine cl_i (ru_V (As := [.int 2]) (rest := []) hF (mX4_refused l G ad (xi y 0 0) W0 2) (cwV 1 hts (lw_V q1255 q1257 qs29 q66 q1258) rfl rfl rfl (by decide +kernel) ⟨lb hR1 rfl, lb hR4 rfl⟩) hW (List.mem_of_getElem? (i := 0) rfl) (ci := 20) rfl rfl rfl hl.1 rfl (lv_room (Nat.le_of_ble_eq_true rfl)) dX4_force_43 ⟨by omega, by omega⟩) hW (fun r_19 u_20 H locs h_21 hW => ?_)
          obtain ⟨rfl, rfl⟩ : r_19 = (-1) ∧ u_20 = _ := h_21
          have hW : pM G (MWl G ad (xi (xi (xi y 0 0) 1 2) 2 (-1)) ++ W0) s _ _ := hW
          exact re_i hF hRt hLk hQ (by omega) (by omega) dX4_force_46 ((xi (xi (xi y 0 0) 1 2) 2 (-1)), (rfS S 2).1) (⟨by unfold forceS; rw [hi0]; exact ⟨fun _ => rfl, fun z => absurd z (fun z => b_35 z.2)⟩, ⟨m0, m1, m2, m3, m4, m5, m6, m7, m8, m9, m10, m11, m12, m13, m14, rfl, m16, rfl, m18, m19, m20, m21, m22⟩⟩) hW
      · refine lv_if_eq (tgt := 41) hx hb dX4_force_27 (by decide) (fun c_27 => ?_) (fun c_27 => absurd c_27 (by decide))
        refine lv_aload_n hx hb dX4_force_41 rfl (lv_at hl 0 rfl) ?_
        refine lv_iconst (v := 2) hx hb dX4_force_42 (by decide) ?_
        refine cl_i (ru_V (As := [.int 2]) (rest := []) hF (mX4_refused l G ad (xi y 0 0) W0 2) (cwV 1 hts (lw_V q1255 q1257 qs29 q66 q1258) rfl rfl rfl (by decide +kernel) ⟨lb hR1 rfl, lb hR4 rfl⟩) hW (List.mem_of_getElem? (i := 0) rfl) (ci := 20) rfl rfl rfl hl.1 rfl (lv_room (Nat.le_of_ble_eq_true rfl)) dX4_force_43 ⟨by omega, by omega⟩) hW (fun r_22 u_23 H locs h_24 hW => ?_)
        obtain ⟨rfl, rfl⟩ : r_22 = (-1) ∧ u_23 = _ := h_24
        have hW : pM G (MWl G ad (xi (xi (xi y 0 0) 1 2) 2 (-1)) ++ W0) s _ _ := hW
        exact re_i hF hRt hLk hQ (by omega) (by omega) dX4_force_46 ((xi (xi (xi y 0 0) 1 2) 2 (-1)), (rfS S 2).1) (⟨by unfold forceS; rw [hi0]; exact ⟨fun _ => rfl, fun z => absurd z (fun z => b_24 z.1)⟩, ⟨m0, m1, m2, m3, m4, m5, m6, m7, m8, m9, m10, m11, m12, m13, m14, rfl, m16, rfl, m18, m19, m20, m21, m22⟩⟩) hW
    · exact absurd ((by rw [show (xi y 0 0).1 7 = nI (cC S.1).length from m8]; exact ix_in hi0 : 0 ≤ (nI k0) ∧ (nI k0) < (xi y 0 0).1 7)) h_

theorem fall_s {c : Co} {t k : Nat} {d n : Int32} : fallL c t d n (k + 1) = fallL c t d n k ++ (if (frcB c k d n && disA c ((cT c).getD t dG).1 ((cC c).getD k dC).1) = true then [k] else []) := by
  unfold fallL
  have key : ∀ p : Nat → Bool, [k].filter p = if p k = true then [k] else [] := fun p => by by_cases hp : p k = true <;> simp [hp]
  rw [List.range_succ, List.filter_append, key]
theorem fall_y {c : Co} {t k : Nat} {d n : Int32} (h1 : frcB c k d n = true) (h2 : disA c ((cT c).getD t dG).1 ((cC c).getD k dC).1 = true) : fallL c t d n (k + 1) = fallL c t d n k ++ [k] := by rw [fall_s, h1, h2]; rfl
theorem fall_n {c : Co} {t k : Nat} {d n : Int32} (h : frcB c k d n = false ∨ disA c ((cT c).getD t dG).1 ((cC c).getD k dC).1 = false) : fallL c t d n (k + 1) = fallL c t d n k := by
  rw [fall_s, if_neg (by rcases h with z | z <;> rw [z] <;> simp), List.append_nil]
theorem fall_le {c : Co} {t : Nat} {d n : Int32} (k : Nat) : (fallL c t d n k).length ≤ k := by
  have := List.length_filter_le (fun j => frcB c j d n && disA c ((cT c).getD t dG).1 ((cC c).getD j dC).1) (List.range k)
  rw [List.length_range] at this
  exact this
theorem LstR.add {f : Nat → Int32} {l : List Nat} {k : Nat} (h : LstR f l) : LstR (va_up f l.length (nI k)) (l ++ [k]) := by
  intro j hj
  rcases getD_snoc (d := 0) hj with ⟨h1, e⟩ | ⟨h1, e⟩
  · rw [e, up_n (by omega)]; exact h j h1
  · rw [e, h1, up_s]
set_option maxRecDepth 100000 in
set_option maxHeartbeats 8000000 in
theorem mX4_falls (l : Launch) (G : pG) (ad : Nat → Nat) (y : XV) (W0 T : va_W) (hT : ∀ q ∈ T, q ∈ W0) (S : AS) (n9 : Nat) (hS : SOk n9 S) (hn9 : n9 ≤ 64) (hMR : MR G T y S) (a0 a1 a2 : Int32) : Met l yX4_falls (ws_ yX4_falls cX4_falls 6 (some .int)) ({ frames := 22, cells := 0, slots := 0, locals := 1045 } : Room) (va_Pc [.ref (ad 0), .int a0, .int a1, .int a2] (fun U => pW G (MWl G ad y ++ W0) U)) (va_Qi (fun r (u : XV × AS) => fallsS S a0 a1 a2 u.2 r ∧ MR G T u.1 u.2) (fun (u : XV × AS) t9 => pW G (MWl G ad u.1 ++ W0) t9) (pA G)) 0 0 (pA G) := by
  refine mw (by decide) (Nat.le_of_ble_eq_true rfl) ?_
  intro pp ee R s m below meth c ls Q hF hRt hLk hnm hR hQ hW hl
  have hx := hF.1
  have hb := hF.2.1
  have hts := hF.2.2.2.2
  have hR1 : R.frames = 22 := by rw [hR]
  have hR2 : R.cells = 0 := by rw [hR]
  have hR3 : R.slots = 0 := by rw [hR]
  have hR4 : R.locals = 1045 := by rw [hR]
  have hl : lv_has ls 6 [(0, .ref (ad 0)), (1, .int a0), (2, .int a1), (3, .int a2)] := hl
  have hW : pM G (MWl G ad y ++ W0) s s.heap [] := hW
  obtain ⟨m0, m1, m2, m3, m4, m5, m6, m7, m8, m9, m10, m11, m12, m13, m14, m15, m16, m17, m18, m19, m20, m21, m22⟩ := hMR
  have hI := hS.inv
  have b0 := hI.1.1
  have b1 := hI.2.1.1
  have b2 := hI.2.2.1.1
  have b3 := hI.2.2.2.1.1
  have b4 := hI.2.2.2.2.1.1
  have b5 := hI.2.2.2.2.2
  have b6 := hS.2.1
  have b7 := hS.2.2.1
  have b8 := hS.2.2.2.1
  have b9 := hS.2.2.2.2.1
  cases hi0 : ix a0 (cT S.1).length with
  | none =>
    refine lv_aload_n hx hb dX4_falls_0 rfl (lv_at hl 0 rfl) ?_
    refine lv_iconst (v := 0) hx hb dX4_falls_1 (by decide) ?_
    refine pM0_thrown hF hW q1095 dX4_falls_2 (fun H locs hW => ?_)
    have hW : pM G (MWl G ad (xi y 0 0) ++ W0) s _ _ := hW
    refine lv_iload_n hx hb dX4_falls_5 rfl (lv_at hl 2 rfl) ?_
    refine lv_iconst (v := 0) hx hb dX4_falls_6 (by decide) ?_
    refine lv_sipush (v := 20000) hx hb dX4_falls_7 (by decide) ?_
    refine cl_i (ru_S (As := [.int a1, .int 0, .int 20000]) (rest := []) hF (mX4_in l G (MWl G ad (xi y 0 0) ++ W0) a1 0 20000) (va_cwS 3 hts (lw_S q1307 q1308 q66 q1309) rfl rfl rfl (by decide +kernel) ⟨lb hR1 rfl, lb hR4 rfl⟩) hW rfl rfl hl.1 rfl (lv_room (Nat.le_of_ble_eq_true rfl)) dX4_falls_10 ⟨by omega, by omega⟩) hW (fun r_1 u_2 H locs h_3 hW => ?_)
    have hW : pM G (MWl G ad (xi y 0 0) ++ W0) s _ _ := hW
    rcases h_3 with ⟨rfl, b_10⟩ | ⟨rfl, b_10⟩
    · refine lv_if_eq (tgt := 31) hx hb dX4_falls_13 (by decide) (fun c_13 => absurd c_13 (by decide)) (fun c_13 => ?_)
      refine lv_iload_n hx hb dX4_falls_16 rfl (lv_at hl 3 rfl) ?_
      refine lv_iconst (v := 0) hx hb dX4_falls_17 (by decide) ?_
      refine lv_sipush (v := 20000) hx hb dX4_falls_18 (by decide) ?_
      refine cl_i (ru_S (As := [.int a2, .int 0, .int 20000]) (rest := []) hF (mX4_in l G (MWl G ad (xi y 0 0) ++ W0) a2 0 20000) (va_cwS 3 hts (lw_S q1307 q1308 q66 q1309) rfl rfl rfl (by decide +kernel) ⟨lb hR1 rfl, lb hR4 rfl⟩) hW rfl rfl hl.1 rfl (lv_room (Nat.le_of_ble_eq_true rfl)) dX4_falls_21 ⟨by omega, by omega⟩) hW (fun r_4 u_5 H locs h_6 hW => ?_)
      have hW : pM G (MWl G ad (xi y 0 0) ++ W0) s _ _ := hW
      rcases h_6 with ⟨rfl, b_21⟩ | ⟨rfl, b_21⟩
      · refine lv_if_eq (tgt := 31) hx hb dX4_falls_24 (by decide) (fun c_24 => absurd c_24 (by decide)) (fun c_24 => ?_)
        refine lv_iconst (v := 1) hx hb dX4_falls_27 (by decide) ?_
        refine lv_goto (tgt := 32) hx hb dX4_falls_28 (by decide) ?_
        refine lv_istore (lv' := [(4, .int 1), (0, .ref (ad 0)), (1, .int a0), (2, .int a1), (3, .int a2)]) hx hb dX4_falls_32 hl (by decide) rfl (fun ls hl => ?_)
        refine lv_iload_n hx hb dX4_falls_34 rfl (lv_at hl 2 rfl) ?_
        refine lv_if_lt (tgt := 61) hx hb dX4_falls_35 (by decide) (fun c_35 => ?_) (fun c_35 => ?_)
        · refine lv_aload_n hx hb dX4_falls_61 rfl (lv_at hl 1 rfl) ?_
          refine lv_iconst (v := 1) hx hb dX4_falls_62 (by decide) ?_
          refine cl_i (ru_V (As := [.int 1]) (rest := []) hF (mX4_refused l G ad (xi y 0 0) W0 1) (cwV 1 hts (lw_V q1255 q1257 qs29 q66 q1258) rfl rfl rfl (by decide +kernel) ⟨lb hR1 rfl, lb hR4 rfl⟩) hW (List.mem_of_getElem? (i := 0) rfl) (ci := 20) rfl rfl rfl hl.1 rfl (lv_room (Nat.le_of_ble_eq_true rfl)) dX4_falls_63 ⟨by omega, by omega⟩) hW (fun r_7 u_8 H locs h_9 hW => ?_)
          obtain ⟨rfl, rfl⟩ : r_7 = (-1) ∧ u_8 = _ := h_9
          have hW : pM G (MWl G ad (xi (xi (xi y 0 0) 1 1) 2 (-1)) ++ W0) s _ _ := hW
          exact re_i hF hRt hLk hQ (by omega) (by omega) dX4_falls_66 ((xi (xi (xi y 0 0) 1 1) 2 (-1)), (rfS S 1).1) (⟨by unfold fallsS; rw [hi0]; rfl, ⟨m0, m1, m2, m3, m4, m5, m6, m7, m8, m9, m10, m11, m12, m13, m14, rfl, m16, rfl, m18, m19, m20, m21, m22⟩⟩) hW
        · refine lv_iload_n hx hb dX4_falls_38 rfl (lv_at hl 2 rfl) ?_
          refine lv_aload_n hx hb dX4_falls_39 rfl (lv_at hl 1 rfl) ?_
          refine gM0_things hF hW q1103 (v := nI (cT S.1).length) (m6) dX4_falls_40 ?_
          refine lv_icmp_ge (tgt := 61) hx hb dX4_falls_43 (by decide) (fun c_43 => ?_) (fun c_43 => absurd (And.intro (Int32.not_lt.mp c_35) (Int32.not_le.mp c_43)) (ix_no hi0))
          refine lv_aload_n hx hb dX4_falls_61 rfl (lv_at hl 1 rfl) ?_
          refine lv_iconst (v := 1) hx hb dX4_falls_62 (by decide) ?_
          refine cl_i (ru_V (As := [.int 1]) (rest := []) hF (mX4_refused l G ad (xi y 0 0) W0 1) (cwV 1 hts (lw_V q1255 q1257 qs29 q66 q1258) rfl rfl rfl (by decide +kernel) ⟨lb hR1 rfl, lb hR4 rfl⟩) hW (List.mem_of_getElem? (i := 0) rfl) (ci := 20) rfl rfl rfl hl.1 rfl (lv_room (Nat.le_of_ble_eq_true rfl)) dX4_falls_63 ⟨by omega, by omega⟩) hW (fun r_10 u_11 H locs h_12 hW => ?_)
          obtain ⟨rfl, rfl⟩ : r_10 = (-1) ∧ u_11 = _ := h_12
          have hW : pM G (MWl G ad (xi (xi (xi y 0 0) 1 1) 2 (-1)) ++ W0) s _ _ := hW
          exact re_i hF hRt hLk hQ (by omega) (by omega) dX4_falls_66 ((xi (xi (xi y 0 0) 1 1) 2 (-1)), (rfS S 1).1) (⟨by unfold fallsS; rw [hi0]; rfl, ⟨m0, m1, m2, m3, m4, m5, m6, m7, m8, m9, m10, m11, m12, m13, m14, rfl, m16, rfl, m18, m19, m20, m21, m22⟩⟩) hW
      · refine lv_if_eq (tgt := 31) hx hb dX4_falls_24 (by decide) (fun c_24 => ?_) (fun c_24 => absurd c_24 (by decide))
        refine lv_iconst (v := 0) hx hb dX4_falls_31 (by decide) ?_
        refine lv_istore (lv' := [(4, .int 0), (0, .ref (ad 0)), (1, .int a0), (2, .int a1), (3, .int a2)]) hx hb dX4_falls_32 hl (by decide) rfl (fun ls hl => ?_)
        refine lv_iload_n hx hb dX4_falls_34 rfl (lv_at hl 2 rfl) ?_
        refine lv_if_lt (tgt := 61) hx hb dX4_falls_35 (by decide) (fun c_35 => ?_) (fun c_35 => ?_)
        · refine lv_aload_n hx hb dX4_falls_61 rfl (lv_at hl 1 rfl) ?_
          refine lv_iconst (v := 1) hx hb dX4_falls_62 (by decide) ?_
          refine cl_i (ru_V (As := [.int 1]) (rest := []) hF (mX4_refused l G ad (xi y 0 0) W0 1) (cwV 1 hts (lw_V q1255 q1257 qs29 q66 q1258) rfl rfl rfl (by decide +kernel) ⟨lb hR1 rfl, lb hR4 rfl⟩) hW (List.mem_of_getElem? (i := 0) rfl) (ci := 20) rfl rfl rfl hl.1 rfl (lv_room (Nat.le_of_ble_eq_true rfl)) dX4_falls_63 ⟨by omega, by omega⟩) hW (fun r_13 u_14 H locs h_15 hW => ?_)
          obtain ⟨rfl, rfl⟩ : r_13 = (-1) ∧ u_14 = _ := h_15
          have hW : pM G (MWl G ad (xi (xi (xi y 0 0) 1 1) 2 (-1)) ++ W0) s _ _ := hW
          exact re_i hF hRt hLk hQ (by omega) (by omega) dX4_falls_66 ((xi (xi (xi y 0 0) 1 1) 2 (-1)), (rfS S 1).1) (⟨by unfold fallsS; rw [hi0]; rfl, ⟨m0, m1, m2, m3, m4, m5, m6, m7, m8, m9, m10, m11, m12, m13, m14, rfl, m16, rfl, m18, m19, m20, m21, m22⟩⟩) hW
        · refine lv_iload_n hx hb dX4_falls_38 rfl (lv_at hl 2 rfl) ?_
          refine lv_aload_n hx hb dX4_falls_39 rfl (lv_at hl 1 rfl) ?_
          refine gM0_things hF hW q1103 (v := nI (cT S.1).length) (m6) dX4_falls_40 ?_
          refine lv_icmp_ge (tgt := 61) hx hb dX4_falls_43 (by decide) (fun c_43 => ?_) (fun c_43 => absurd (And.intro (Int32.not_lt.mp c_35) (Int32.not_le.mp c_43)) (ix_no hi0))
          refine lv_aload_n hx hb dX4_falls_61 rfl (lv_at hl 1 rfl) ?_
          refine lv_iconst (v := 1) hx hb dX4_falls_62 (by decide) ?_
          refine cl_i (ru_V (As := [.int 1]) (rest := []) hF (mX4_refused l G ad (xi y 0 0) W0 1) (cwV 1 hts (lw_V q1255 q1257 qs29 q66 q1258) rfl rfl rfl (by decide +kernel) ⟨lb hR1 rfl, lb hR4 rfl⟩) hW (List.mem_of_getElem? (i := 0) rfl) (ci := 20) rfl rfl rfl hl.1 rfl (lv_room (Nat.le_of_ble_eq_true rfl)) dX4_falls_63 ⟨by omega, by omega⟩) hW (fun r_16 u_17 H locs h_18 hW => ?_)
          obtain ⟨rfl, rfl⟩ : r_16 = (-1) ∧ u_17 = _ := h_18
          have hW : pM G (MWl G ad (xi (xi (xi y 0 0) 1 1) 2 (-1)) ++ W0) s _ _ := hW
          exact re_i hF hRt hLk hQ (by omega) (by omega) dX4_falls_66 ((xi (xi (xi y 0 0) 1 1) 2 (-1)), (rfS S 1).1) (⟨by unfold fallsS; rw [hi0]; rfl, ⟨m0, m1, m2, m3, m4, m5, m6, m7, m8, m9, m10, m11, m12, m13, m14, rfl, m16, rfl, m18, m19, m20, m21, m22⟩⟩) hW
    · refine lv_if_eq (tgt := 31) hx hb dX4_falls_13 (by decide) (fun c_13 => ?_) (fun c_13 => absurd c_13 (by decide))
      refine lv_iconst (v := 0) hx hb dX4_falls_31 (by decide) ?_
      refine lv_istore (lv' := [(4, .int 0), (0, .ref (ad 0)), (1, .int a0), (2, .int a1), (3, .int a2)]) hx hb dX4_falls_32 hl (by decide) rfl (fun ls hl => ?_)
      refine lv_iload_n hx hb dX4_falls_34 rfl (lv_at hl 2 rfl) ?_
      refine lv_if_lt (tgt := 61) hx hb dX4_falls_35 (by decide) (fun c_35 => ?_) (fun c_35 => ?_)
      · refine lv_aload_n hx hb dX4_falls_61 rfl (lv_at hl 1 rfl) ?_
        refine lv_iconst (v := 1) hx hb dX4_falls_62 (by decide) ?_
        refine cl_i (ru_V (As := [.int 1]) (rest := []) hF (mX4_refused l G ad (xi y 0 0) W0 1) (cwV 1 hts (lw_V q1255 q1257 qs29 q66 q1258) rfl rfl rfl (by decide +kernel) ⟨lb hR1 rfl, lb hR4 rfl⟩) hW (List.mem_of_getElem? (i := 0) rfl) (ci := 20) rfl rfl rfl hl.1 rfl (lv_room (Nat.le_of_ble_eq_true rfl)) dX4_falls_63 ⟨by omega, by omega⟩) hW (fun r_19 u_20 H locs h_21 hW => ?_)
        obtain ⟨rfl, rfl⟩ : r_19 = (-1) ∧ u_20 = _ := h_21
        have hW : pM G (MWl G ad (xi (xi (xi y 0 0) 1 1) 2 (-1)) ++ W0) s _ _ := hW
        exact re_i hF hRt hLk hQ (by omega) (by omega) dX4_falls_66 ((xi (xi (xi y 0 0) 1 1) 2 (-1)), (rfS S 1).1) (⟨by unfold fallsS; rw [hi0]; rfl, ⟨m0, m1, m2, m3, m4, m5, m6, m7, m8, m9, m10, m11, m12, m13, m14, rfl, m16, rfl, m18, m19, m20, m21, m22⟩⟩) hW
      · refine lv_iload_n hx hb dX4_falls_38 rfl (lv_at hl 2 rfl) ?_
        refine lv_aload_n hx hb dX4_falls_39 rfl (lv_at hl 1 rfl) ?_
        refine gM0_things hF hW q1103 (v := nI (cT S.1).length) (m6) dX4_falls_40 ?_
        refine lv_icmp_ge (tgt := 61) hx hb dX4_falls_43 (by decide) (fun c_43 => ?_) (fun c_43 => absurd (And.intro (Int32.not_lt.mp c_35) (Int32.not_le.mp c_43)) (ix_no hi0))
        refine lv_aload_n hx hb dX4_falls_61 rfl (lv_at hl 1 rfl) ?_
        refine lv_iconst (v := 1) hx hb dX4_falls_62 (by decide) ?_
        refine cl_i (ru_V (As := [.int 1]) (rest := []) hF (mX4_refused l G ad (xi y 0 0) W0 1) (cwV 1 hts (lw_V q1255 q1257 qs29 q66 q1258) rfl rfl rfl (by decide +kernel) ⟨lb hR1 rfl, lb hR4 rfl⟩) hW (List.mem_of_getElem? (i := 0) rfl) (ci := 20) rfl rfl rfl hl.1 rfl (lv_room (Nat.le_of_ble_eq_true rfl)) dX4_falls_63 ⟨by omega, by omega⟩) hW (fun r_22 u_23 H locs h_24 hW => ?_)
        obtain ⟨rfl, rfl⟩ : r_22 = (-1) ∧ u_23 = _ := h_24
        have hW : pM G (MWl G ad (xi (xi (xi y 0 0) 1 1) 2 (-1)) ++ W0) s _ _ := hW
        exact re_i hF hRt hLk hQ (by omega) (by omega) dX4_falls_66 ((xi (xi (xi y 0 0) 1 1) 2 (-1)), (rfS S 1).1) (⟨by unfold fallsS; rw [hi0]; rfl, ⟨m0, m1, m2, m3, m4, m5, m6, m7, m8, m9, m10, m11, m12, m13, m14, rfl, m16, rfl, m18, m19, m20, m21, m22⟩⟩) hW
  | some k0 =>
    obtain ⟨hk0, rfl⟩ := ix_some hi0 (by omega)
    refine lv_aload_n hx hb dX4_falls_0 rfl (lv_at hl 0 rfl) ?_
    refine lv_iconst (v := 0) hx hb dX4_falls_1 (by decide) ?_
    refine pM0_thrown hF hW q1095 dX4_falls_2 (fun H locs hW => ?_)
    have hW : pM G (MWl G ad (xi y 0 0) ++ W0) s _ _ := hW
    refine lv_iload_n hx hb dX4_falls_5 rfl (lv_at hl 2 rfl) ?_
    refine lv_iconst (v := 0) hx hb dX4_falls_6 (by decide) ?_
    refine lv_sipush (v := 20000) hx hb dX4_falls_7 (by decide) ?_
    refine cl_i (ru_S (As := [.int a1, .int 0, .int 20000]) (rest := []) hF (mX4_in l G (MWl G ad (xi y 0 0) ++ W0) a1 0 20000) (va_cwS 3 hts (lw_S q1307 q1308 q66 q1309) rfl rfl rfl (by decide +kernel) ⟨lb hR1 rfl, lb hR4 rfl⟩) hW rfl rfl hl.1 rfl (lv_room (Nat.le_of_ble_eq_true rfl)) dX4_falls_10 ⟨by omega, by omega⟩) hW (fun r_25 u_26 H locs h_27 hW => ?_)
    have hW : pM G (MWl G ad (xi y 0 0) ++ W0) s _ _ := hW
    rcases h_27 with ⟨rfl, b_10⟩ | ⟨rfl, b_10⟩
    · refine lv_if_eq (tgt := 31) hx hb dX4_falls_13 (by decide) (fun c_13 => absurd c_13 (by decide)) (fun c_13 => ?_)
      refine lv_iload_n hx hb dX4_falls_16 rfl (lv_at hl 3 rfl) ?_
      refine lv_iconst (v := 0) hx hb dX4_falls_17 (by decide) ?_
      refine lv_sipush (v := 20000) hx hb dX4_falls_18 (by decide) ?_
      refine cl_i (ru_S (As := [.int a2, .int 0, .int 20000]) (rest := []) hF (mX4_in l G (MWl G ad (xi y 0 0) ++ W0) a2 0 20000) (va_cwS 3 hts (lw_S q1307 q1308 q66 q1309) rfl rfl rfl (by decide +kernel) ⟨lb hR1 rfl, lb hR4 rfl⟩) hW rfl rfl hl.1 rfl (lv_room (Nat.le_of_ble_eq_true rfl)) dX4_falls_21 ⟨by omega, by omega⟩) hW (fun r_28 u_29 H locs h_30 hW => ?_)
      have hW : pM G (MWl G ad (xi y 0 0) ++ W0) s _ _ := hW
      rcases h_30 with ⟨rfl, b_21⟩ | ⟨rfl, b_21⟩
      · refine lv_if_eq (tgt := 31) hx hb dX4_falls_24 (by decide) (fun c_24 => absurd c_24 (by decide)) (fun c_24 => ?_)
        refine lv_iconst (v := 1) hx hb dX4_falls_27 (by decide) ?_
        refine lv_goto (tgt := 32) hx hb dX4_falls_28 (by decide) ?_
        refine lv_istore (lv' := [(4, .int 1), (0, .ref (ad 0)), (1, .int (nI k0)), (2, .int a1), (3, .int a2)]) hx hb dX4_falls_32 hl (by decide) rfl (fun ls hl => ?_)
        refine lv_iload_n hx hb dX4_falls_34 rfl (lv_at hl 2 rfl) ?_
        refine lv_if_lt (tgt := 61) hx hb dX4_falls_35 (by decide) (fun c_35 => absurd c_35 (nI_pos (by omega))) (fun c_35 => ?_)
        refine lv_iload_n hx hb dX4_falls_38 rfl (lv_at hl 2 rfl) ?_
        refine lv_aload_n hx hb dX4_falls_39 rfl (lv_at hl 1 rfl) ?_
        refine gM0_things hF hW q1103 (v := nI (cT S.1).length) (m6) dX4_falls_40 ?_
        refine lv_icmp_ge (tgt := 61) hx hb dX4_falls_43 (by decide) (fun c_43 => absurd (le_le c_43) (by omega)) (fun c_43 => ?_)
        refine lv_iload hx hb dX4_falls_46 (lv_at hl 0 rfl) ?_
        refine lv_if_eq (tgt := 67) hx hb dX4_falls_48 (by decide) (fun c_48 => absurd c_48 (by decide)) (fun c_48 => ?_)
        refine lv_aload_n hx hb dX4_falls_51 rfl (lv_at hl 1 rfl) ?_
        refine gM0_thingKnown hF hW q1113 dX4_falls_52 ?_
        refine lv_iload_n hx hb dX4_falls_55 rfl (lv_at hl 2 rfl) ?_
        refine lM9 hF hW (j := k0) (rfl) (by omega) (v := nI ((cT S.1).getD k0 dG).2) ((m7 k0 hk0).2) dX4_falls_56 ?_
        refine lv_iload_n hx hb dX4_falls_57 rfl (lv_at hl 4 rfl) ?_
        refine lv_icmp_le (tgt := 67) hx hb dX4_falls_58 (by decide) (fun c_58 => ?_) (fun c_58 => ?_)
        · refine lv_iload hx hb dX4_falls_67 (lv_at hl 0 rfl) ?_
          refine lv_if_ne (tgt := 78) hx hb dX4_falls_69 (by decide) (fun c_69 => ?_) (fun c_69 => absurd c_69 (by decide))
          refine lv_aload_n hx hb dX4_falls_78 rfl (lv_at hl 1 rfl) ?_
          refine lv_iconst (v := 0) hx hb dX4_falls_79 (by decide) ?_
          refine pM0_falls hF hW q1143 dX4_falls_80 (fun H locs hW => ?_)
          have hW : pM G (MWl G ad (xi (xi y 0 0) 20 0) ++ W0) s _ _ := hW
          have hW : pM G (MWl G ad (mfx (xa (xi (xi y 0 0) 20 (nI (fallL S.1 k0 a1 a2 0).length)) 17 ((xi (xi y 0 0) 20 0).2.1 17)) ((xi (xi y 0 0) 20 0).1 17) ((xi (xi y 0 0) 20 0).2.1 14) ((xi (xi y 0 0) 20 0).2.1 15)) ++ W0) s _ _ := hW
          refine lv_iconst (v := 0) hx hb dX4_falls_83 (by decide) ?_
          refine lv_istore (lv' := [(5, .int 0), (4, .int 1), (0, .ref (ad 0)), (1, .int (nI k0)), (2, .int a1), (3, .int a2)]) hx hb dX4_falls_84 hl (by decide) rfl (fun ls hl => ?_)
          have loop_86 : ∀ (nn : Nat) (k : Nat) (f9 : Nat → Int32) (w : Int32) (go : Nat → Int32) (fi : Nat → Int32) (H : Heap) (locs : List Loc) (ls : Array Slot), (cC S.1).length - k < nn → (k ≤ (cC S.1).length) → (LstR f9 (fallL S.1 k0 a1 a2 k)) → pM G (MWl G ad (mfx (xa (xi (xi y 0 0) 20 (nI (fallL S.1 k0 a1 a2 k).length)) 17 f9) w go fi) ++ W0) s H locs → lv_has ls 6 [(0, .ref (ad 0)), (1, .int (nI k0)), (2, .int a1), (3, .int a2), (5, .int (nI k))] → W pp l ee R s m ([.ref (ad 0), .int (nI k0), .int a1, .int a2] : List Value).toArray below meth c H locs ((0 + 0) + 0) ((0 + 0) + 0) Q (F0 m 86 ls []) := by
            intro nn
            induction nn with
            | zero => intro k f9 w go fi H locs ls hm; exact absurd hm (Nat.not_lt_zero _)
            | succ nn ih =>
              intro k f9 w go fi H locs ls hm hk hf9 hW hl
              refine lv_iload hx hb dX4_falls_86 (lv_at hl 4 rfl) ?_
              refine lv_aload_n hx hb dX4_falls_88 rfl (lv_at hl 0 rfl) ?_
              refine gM0_claims hF hW q1102 (v := nI (cC S.1).length) (m8) dX4_falls_89 ?_
              refine lv_icmp_ge (tgt := 156) hx hb dX4_falls_92 (by decide) (fun c_92 => ?_) (fun c_92 => ?_)
              · obtain rfl : k = (cC S.1).length := by have := le_le c_92; omega
                have hW : pM G (MWl G ad (mfx (xa (xi (xi y 0 0) 20 (nI (fallL S.1 k0 a1 a2 ((cC S.1).length)).length)) 17 f9) w go fi) ++ W0) s _ _ := hW
                refine lv_aload_n hx hb dX4_falls_156 rfl (lv_at hl 0 rfl) ?_
                refine lv_aload_n hx hb dX4_falls_157 rfl (lv_at hl 0 rfl) ?_
                refine gM0_falls hF hW q1143 (v := nI (fallL S.1 k0 a1 a2 (cC S.1).length).length) (rfl) dX4_falls_158 ?_
                refine cl_i (ru_V (As := [.int (nI (fallL S.1 k0 a1 a2 (cC S.1).length).length)]) (rest := []) hF (mX4_done l G ad (mfx (xa (xi (xi y 0 0) 20 (nI (fallL S.1 k0 a1 a2 ((cC S.1).length)).length)) 17 f9) w go fi) W0 (nI (fallL S.1 k0 a1 a2 (cC S.1).length).length)) (cwV 1 hts (lw_V q1287 q1289 qs36 q66 q1290) rfl rfl rfl (by decide +kernel) ⟨lb hR1 rfl, lb hR4 rfl⟩) hW (List.mem_of_getElem? (i := 0) rfl) (ci := 20) rfl rfl rfl hl.1 rfl (lv_room (Nat.le_of_ble_eq_true rfl)) dX4_falls_161 ⟨by omega, by omega⟩) hW (fun r_31 u_32 H locs h_33 hW => ?_)
                obtain ⟨rfl, rfl⟩ : r_31 = nI (fallL S.1 k0 a1 a2 (cC S.1).length).length ∧ u_32 = _ := h_33
                have hW : pM G (MWl G ad (xi (xi (mfx (xa (xi (xi y 0 0) 20 (nI (fallL S.1 k0 a1 a2 ((cC S.1).length)).length)) 17 f9) w go fi) 1 0) 2 (-1)) ++ W0) s _ _ := hW
                exact re_i hF hRt hLk hQ (by omega) (by omega) dX4_falls_164 ((xi (xi (mfx (xa (xi (xi y 0 0) 20 (nI (fallL S.1 k0 a1 a2 ((cC S.1).length)).length)) 17 f9) w go fi) 1 0) 2 (-1)), (stR (stK S (fallL S.1 k0 a1 a2 (cC S.1).length)) 0 (-1))) (⟨by unfold fallsS; rw [hi0]; exact ⟨fun z => absurd ⟨b_10, b_21⟩ z, fun _ => ⟨fun z => absurd (c_58) (Int32.not_le.mpr z), fun _ => rfl⟩⟩, ⟨m0, m1, m2, m3, m4, m5, m6, m7, m8, m9, m10, m11, m12, m13, m14, rfl, m16, rfl, m18, m19, m20, rfl, hf9⟩⟩) hW
              · have hkl : k < (cC S.1).length := nle_lt c_92
                have hfl := fall_le (c := S.1) (t := k0) (d := a1) (n := a2) k
                refine lv_aload_n hx hb dX4_falls_95 rfl (lv_at hl 0 rfl) ?_
                refine lv_iload hx hb dX4_falls_96 (lv_at hl 4 rfl) ?_
                refine lv_iload_n hx hb dX4_falls_98 rfl (lv_at hl 2 rfl) ?_
                refine lv_iload_n hx hb dX4_falls_99 rfl (lv_at hl 3 rfl) ?_
                have hS9 : SOk n9 (stK S (fallL S.1 k0 a1 a2 k)) := ⟨hS.1, hS.2.1, hS.2.2.1, hS.2.2.2.1, by show (fallL S.1 k0 a1 a2 k).length ≤ 40; omega, hS.2.2.2.2.2.1, fun w hw => by have := List.mem_range.mp (List.mem_filter.mp hw).1; omega, hS.2.2.2.2.2.2.2⟩
                refine cl_i (ru_V (As := [.int (nI k), .int a1, .int a2]) (rest := []) hF (mX4_isForce l G ad (mfx (xa (xi (xi y 0 0) 20 (nI (fallL S.1 k0 a1 a2 k).length)) 17 f9) w go fi) W0 T hT (stK S (fallL S.1 k0 a1 a2 k)) n9 hS9 hn9 ⟨m0, m1, m2, m3, m4, m5, m6, m7, m8, m9, m10, m11, m12, m13, m14, m15, m16, m17, m18, m19, m20, rfl, hf9⟩ k hkl a1 a2) (cwV 3 hts (lw_V q1467 q1469 qs57 q66 q1470) rfl rfl rfl (by decide +kernel) ⟨lb hR1 rfl, lb hR4 rfl⟩) hW (List.mem_of_getElem? (i := 0) rfl) (ci := 20) rfl rfl rfl hl.1 rfl (lv_room (Nat.le_of_ble_eq_true rfl)) dX4_falls_100 ⟨by omega, by omega⟩) hW (fun r_ u_ H locs h_ hW => ?_)
                have hW : pM G (MWl G ad (mfx (xa (xi (xi y 0 0) 20 (nI (fallL S.1 k0 a1 a2 k).length)) 17 f9) w go fi) ++ W0) s _ _ := hW
                rcases h_ with ⟨rfl, hb1⟩ | ⟨rfl, hb1⟩
                · have hb1 : frcB S.1 k a1 a2 = true := hb1
                  refine lv_if_eq (tgt := 150) hx hb dX4_falls_103 (by decide) (fun c_103 => absurd c_103 (by decide)) (fun c_103 => ?_)
                  refine lv_aload_n hx hb dX4_falls_106 rfl (lv_at hl 0 rfl) ?_
                  refine lv_aload_n hx hb dX4_falls_107 rfl (lv_at hl 0 rfl) ?_
                  refine gM0_thing hF hW q1109 dX4_falls_108 ?_
                  refine lv_iload_n hx hb dX4_falls_111 rfl (lv_at hl 1 rfl) ?_
                  obtain ⟨qt, hqt1, hqt2⟩ := (m7 k0 hk0).1
                  refine lM5 hF hW (j := k0) (rfl) (by omega) (r := qt) (hqt1) dX4_falls_112 ?_
                  refine lv_aload_n hx hb dX4_falls_113 rfl (lv_at hl 0 rfl) ?_
                  refine gM0_claim hF hW q1110 dX4_falls_114 ?_
                  refine lv_iload hx hb dX4_falls_117 (lv_at hl 4 rfl) ?_
                  obtain ⟨qc, hqc1, hqc2⟩ := (m9 k hkl).1
                  refine lM6 hF hW (j := k) (rfl) (by omega) (r := qc) (hqc1) dX4_falls_119 ?_
                  have hW : pM G (MWl G ad (mfx (mfx (xa (xi (xi y 0 0) 20 (nI (fallL S.1 k0 a1 a2 k).length)) 17 f9) w go fi) ((mfx (xa (xi (xi y 0 0) 20 (nI (fallL S.1 k0 a1 a2 k).length)) 17 f9) w go fi).1 17) ((mfx (xa (xi (xi y 0 0) 20 (nI (fallL S.1 k0 a1 a2 k).length)) 17 f9) w go fi).2.1 14) ((mfx (xa (xi (xi y 0 0) 20 (nI (fallL S.1 k0 a1 a2 k).length)) 17 f9) w go fi).2.1 15)) ++ W0) s _ _ := hW
                  refine cl_i (ru_V (As := [.ref qt, .ref qc]) (rest := []) hF (mX4_discloses l G ad (mfx (xa (xi (xi y 0 0) 20 (nI (fallL S.1 k0 a1 a2 k).length)) 17 f9) w go fi) W0 ((mfx (xa (xi (xi y 0 0) 20 (nI (fallL S.1 k0 a1 a2 k).length)) 17 f9) w go fi).1 17) ((mfx (xa (xi (xi y 0 0) 20 (nI (fallL S.1 k0 a1 a2 k).length)) 17 f9) w go fi).2.1 14) ((mfx (xa (xi (xi y 0 0) 20 (nI (fallL S.1 k0 a1 a2 k).length)) 17 f9) w go fi).2.1 15) qc qt (((cC S.1).getD k dC).1) (((cT S.1).getD k0 dG).1) (hqc2.u.mono hT) (hqt2.u.mono hT) (cW S.1).length (WdOk.cg m1.2 (wdF_ok hI)) b0 ((hI.2.2.2.2.1.2 k hkl).1.wide) ((hI.2.2.2.1.2 _ (getD_mem (d := dG) hk0)).1)) (cwV 2 hts (lw_V q1362 q1364 qs46 q66 q1365) rfl rfl rfl (by decide +kernel) ⟨lb hR1 rfl, lb hR4 rfl⟩) hW (List.mem_of_getElem? (i := 0) rfl) (ci := 20) rfl rfl rfl hl.1 rfl (lv_room (Nat.le_of_ble_eq_true rfl)) dX4_falls_120 ⟨by omega, by omega⟩) hW (fun r_ u_ H locs h_ hW => ?_)
                  obtain ⟨w2, go2, fi2⟩ := u_
                  have hW : pM G (MWl G ad (mfx (xa (xi (xi y 0 0) 20 (nI (fallL S.1 k0 a1 a2 k).length)) 17 f9) w2 go2 fi2) ++ W0) s _ _ := hW
                  rcases h_ with ⟨rfl, hd⟩ | ⟨rfl, hd⟩
                  · have hd : disA S.1 (((cT S.1).getD k0 dG).1) (((cC S.1).getD k dC).1) = true := by unfold disA; rw [← disB_cg (wd := wdF S.1) m1.2 (wdF_ok hI) b0 ((hI.2.2.2.1.2 _ (getD_mem (d := dG) hk0)).1)]; exact hd
                    refine lv_if_ne (tgt := 129) hx hb dX4_falls_123 (by decide) (fun c_123 => ?_) (fun c_123 => absurd c_123 (by decide))
                    refine lv_aload_n hx hb dX4_falls_129 rfl (lv_at hl 0 rfl) ?_
                    refine gM0_fallen hF hW q1142 dX4_falls_130 ?_
                    refine lv_aload_n hx hb dX4_falls_133 rfl (lv_at hl 0 rfl) ?_
                    refine gM0_falls hF hW q1143 (v := nI (fallL S.1 k0 a1 a2 k).length) (rfl) dX4_falls_134 ?_
                    refine lv_iload hx hb dX4_falls_137 (lv_at hl 4 rfl) ?_
                    refine sM25 hF hW (j := (fallL S.1 k0 a1 a2 k).length) (rfl) (by omega) dX4_falls_139 (fun H locs hW => ?_)
                    have hW : pM G (MWl G ad (xa (mfx (xa (xi (xi y 0 0) 20 (nI (fallL S.1 k0 a1 a2 k).length)) 17 f9) w2 go2 fi2) 17 (va_up ((mfx (xa (xi (xi y 0 0) 20 (nI (fallL S.1 k0 a1 a2 k).length)) 17 f9) w2 go2 fi2).2.1 17) ((fallL S.1 k0 a1 a2 k).length) (nI k))) ++ W0) s _ _ := hW
                    refine lv_aload_n hx hb dX4_falls_140 rfl (lv_at hl 0 rfl) ?_
                    refine lv_dup hx hb dX4_falls_141 rfl ?_
                    refine gM0_falls hF hW q1143 (v := nI (fallL S.1 k0 a1 a2 k).length) (rfl) dX4_falls_142 ?_
                    refine lv_iconst (v := 1) hx hb dX4_falls_145 (by decide) ?_
                    refine lv_iadd hx hb dX4_falls_146 ?_
                    refine lv_eqi (show (nI (fallL S.1 k0 a1 a2 k).length) + 1 = nI ((fallL S.1 k0 a1 a2 k).length + 1) from nI_add ((fallL S.1 k0 a1 a2 k).length) 1) ?_
                    refine pM0_falls hF hW q1143 dX4_falls_147 (fun H locs hW => ?_)
                    have hW : pM G (MWl G ad (xa (xi (mfx (xa (xi (xi y 0 0) 20 (nI (fallL S.1 k0 a1 a2 k).length)) 17 f9) w2 go2 fi2) 20 (nI ((fallL S.1 k0 a1 a2 k).length + 1))) 17 (va_up ((mfx (xa (xi (xi y 0 0) 20 (nI (fallL S.1 k0 a1 a2 k).length)) 17 f9) w2 go2 fi2).2.1 17) ((fallL S.1 k0 a1 a2 k).length) (nI k))) ++ W0) s _ _ := hW
                    have efl : fallL S.1 k0 a1 a2 (k + 1) = fallL S.1 k0 a1 a2 k ++ [k] := fall_y hb1 hd
                    have elen : nI ((fallL S.1 k0 a1 a2 k).length + 1) = nI (fallL S.1 k0 a1 a2 (k + 1)).length := by rw [efl]; exact len_add _ _
                    have hW : pM G (MWl G ad (mfx (xa (xi (xi y 0 0) 20 (nI ((fallL S.1 k0 a1 a2 k).length + 1))) 17 (va_up f9 (fallL S.1 k0 a1 a2 k).length (nI k))) w2 go2 fi2) ++ W0) s _ _ := hW
                    rw [elen] at hW
                    refine lv_iinc (v := nI (k + 1)) (lv' := [(5, .int (nI (k + 1))), (0, .ref (ad 0)), (1, .int (nI k0)), (2, .int a1), (3, .int a2)]) hx hb dX4_falls_150 hl (k := 4) rfl (nI_1 _) (by decide) rfl (fun ls hl => ?_)
                    refine lv_goto (tgt := 86) hx hb dX4_falls_153 (by decide) ?_
                    exact W.widen (by omega) (by omega) (ih (k + 1) (va_up f9 (fallL S.1 k0 a1 a2 k).length (nI k)) w2 go2 fi2 H locs ls (by omega) (by omega) (by rw [efl]; exact hf9.add) hW (lv_sub hl [1, 2, 3, 4, 0] rfl))
                  · have hd : disA S.1 (((cT S.1).getD k0 dG).1) (((cC S.1).getD k dC).1) = false := by unfold disA; rw [← disB_cg (wd := wdF S.1) m1.2 (wdF_ok hI) b0 ((hI.2.2.2.1.2 _ (getD_mem (d := dG) hk0)).1)]; exact hd
                    refine lv_if_ne (tgt := 129) hx hb dX4_falls_123 (by decide) (fun c_123 => absurd c_123 (by decide)) (fun c_123 => ?_)
                    refine lv_goto (tgt := 150) hx hb dX4_falls_126 (by decide) ?_
                    have efl : fallL S.1 k0 a1 a2 (k + 1) = fallL S.1 k0 a1 a2 k := fall_n (Or.inr hd)
                    have hW : pM G (MWl G ad (mfx (xa (xi (xi y 0 0) 20 (nI (fallL S.1 k0 a1 a2 k).length)) 17 f9) w2 go2 fi2) ++ W0) s _ _ := hW
                    rw [← efl] at hW
                    refine lv_iinc (v := nI (k + 1)) (lv' := [(5, .int (nI (k + 1))), (0, .ref (ad 0)), (1, .int (nI k0)), (2, .int a1), (3, .int a2)]) hx hb dX4_falls_150 hl (k := 4) rfl (nI_1 _) (by decide) rfl (fun ls hl => ?_)
                    refine lv_goto (tgt := 86) hx hb dX4_falls_153 (by decide) ?_
                    exact W.widen (by omega) (by omega) (ih (k + 1) f9 w2 go2 fi2 H locs ls (by omega) (by omega) (by rw [efl]; exact hf9) hW (lv_sub hl [1, 2, 3, 4, 0] rfl))
                · have hb1 : frcB S.1 k a1 a2 = false := hb1
                  refine lv_if_eq (tgt := 150) hx hb dX4_falls_103 (by decide) (fun c_103 => ?_) (fun c_103 => absurd c_103 (by decide))
                  have efl : fallL S.1 k0 a1 a2 (k + 1) = fallL S.1 k0 a1 a2 k := fall_n (Or.inl hb1)
                  have hW : pM G (MWl G ad (mfx (xa (xi (xi y 0 0) 20 (nI (fallL S.1 k0 a1 a2 k).length)) 17 f9) w go fi) ++ W0) s _ _ := hW
                  rw [← efl] at hW
                  refine lv_iinc (v := nI (k + 1)) (lv' := [(5, .int (nI (k + 1))), (0, .ref (ad 0)), (1, .int (nI k0)), (2, .int a1), (3, .int a2)]) hx hb dX4_falls_150 hl (k := 4) rfl (nI_1 _) (by decide) rfl (fun ls hl => ?_)
                  refine lv_goto (tgt := 86) hx hb dX4_falls_153 (by decide) ?_
                  exact W.widen (by omega) (by omega) (ih (k + 1) f9 w go fi H locs ls (by omega) (by omega) (by rw [efl]; exact hf9) hW (lv_sub hl [1, 2, 3, 4, 0] rfl))
          exact loop_86 _ 0 ((xi (xi y 0 0) 20 0).2.1 17) ((xi (xi y 0 0) 20 0).1 17) ((xi (xi y 0 0) 20 0).2.1 14) ((xi (xi y 0 0) 20 0).2.1 15) _ _ _ (Nat.lt_succ_self _) (Nat.zero_le _) (fun j hj => absurd hj (Nat.not_lt_zero _)) hW (lv_sub hl [2, 3, 4, 5, 0] rfl)
        · refine lv_aload_n hx hb dX4_falls_61 rfl (lv_at hl 1 rfl) ?_
          refine lv_iconst (v := 1) hx hb dX4_falls_62 (by decide) ?_
          refine cl_i (ru_V (As := [.int 1]) (rest := []) hF (mX4_refused l G ad (xi y 0 0) W0 1) (cwV 1 hts (lw_V q1255 q1257 qs29 q66 q1258) rfl rfl rfl (by decide +kernel) ⟨lb hR1 rfl, lb hR4 rfl⟩) hW (List.mem_of_getElem? (i := 0) rfl) (ci := 20) rfl rfl rfl hl.1 rfl (lv_room (Nat.le_of_ble_eq_true rfl)) dX4_falls_63 ⟨by omega, by omega⟩) hW (fun r_34 u_35 H locs h_36 hW => ?_)
          obtain ⟨rfl, rfl⟩ : r_34 = (-1) ∧ u_35 = _ := h_36
          have hW : pM G (MWl G ad (xi (xi (xi y 0 0) 1 1) 2 (-1)) ++ W0) s _ _ := hW
          exact re_i hF hRt hLk hQ (by omega) (by omega) dX4_falls_66 ((xi (xi (xi y 0 0) 1 1) 2 (-1)), (rfS S 1).1) (⟨by unfold fallsS; rw [hi0]; exact ⟨fun z => absurd ⟨b_10, b_21⟩ z, fun _ => ⟨fun _ => rfl, fun z => absurd (Int32.not_le.mp c_58) z⟩⟩, ⟨m0, m1, m2, m3, m4, m5, m6, m7, m8, m9, m10, m11, m12, m13, m14, rfl, m16, rfl, m18, m19, m20, m21, m22⟩⟩) hW
      · refine lv_if_eq (tgt := 31) hx hb dX4_falls_24 (by decide) (fun c_24 => ?_) (fun c_24 => absurd c_24 (by decide))
        refine lv_iconst (v := 0) hx hb dX4_falls_31 (by decide) ?_
        refine lv_istore (lv' := [(4, .int 0), (0, .ref (ad 0)), (1, .int (nI k0)), (2, .int a1), (3, .int a2)]) hx hb dX4_falls_32 hl (by decide) rfl (fun ls hl => ?_)
        refine lv_iload_n hx hb dX4_falls_34 rfl (lv_at hl 2 rfl) ?_
        refine lv_if_lt (tgt := 61) hx hb dX4_falls_35 (by decide) (fun c_35 => absurd c_35 (nI_pos (by omega))) (fun c_35 => ?_)
        refine lv_iload_n hx hb dX4_falls_38 rfl (lv_at hl 2 rfl) ?_
        refine lv_aload_n hx hb dX4_falls_39 rfl (lv_at hl 1 rfl) ?_
        refine gM0_things hF hW q1103 (v := nI (cT S.1).length) (m6) dX4_falls_40 ?_
        refine lv_icmp_ge (tgt := 61) hx hb dX4_falls_43 (by decide) (fun c_43 => absurd (le_le c_43) (by omega)) (fun c_43 => ?_)
        refine lv_iload hx hb dX4_falls_46 (lv_at hl 0 rfl) ?_
        refine lv_if_eq (tgt := 67) hx hb dX4_falls_48 (by decide) (fun c_48 => ?_) (fun c_48 => absurd c_48 (by decide))
        refine lv_iload hx hb dX4_falls_67 (lv_at hl 0 rfl) ?_
        refine lv_if_ne (tgt := 78) hx hb dX4_falls_69 (by decide) (fun c_69 => absurd c_69 (by decide)) (fun c_69 => ?_)
        refine lv_aload_n hx hb dX4_falls_72 rfl (lv_at hl 1 rfl) ?_
        refine lv_iconst (v := 2) hx hb dX4_falls_73 (by decide) ?_
        refine cl_i (ru_V (As := [.int 2]) (rest := []) hF (mX4_refused l G ad (xi y 0 0) W0 2) (cwV 1 hts (lw_V q1255 q1257 qs29 q66 q1258) rfl rfl rfl (by decide +kernel) ⟨lb hR1 rfl, lb hR4 rfl⟩) hW (List.mem_of_getElem? (i := 0) rfl) (ci := 20) rfl rfl rfl hl.1 rfl (lv_room (Nat.le_of_ble_eq_true rfl)) dX4_falls_74 ⟨by omega, by omega⟩) hW (fun r_37 u_38 H locs h_39 hW => ?_)
        obtain ⟨rfl, rfl⟩ : r_37 = (-1) ∧ u_38 = _ := h_39
        have hW : pM G (MWl G ad (xi (xi (xi y 0 0) 1 2) 2 (-1)) ++ W0) s _ _ := hW
        exact re_i hF hRt hLk hQ (by omega) (by omega) dX4_falls_77 ((xi (xi (xi y 0 0) 1 2) 2 (-1)), (rfS S 2).1) (⟨by unfold fallsS; rw [hi0]; exact ⟨fun _ => rfl, fun z => absurd z (fun z => b_21 z.2)⟩, ⟨m0, m1, m2, m3, m4, m5, m6, m7, m8, m9, m10, m11, m12, m13, m14, rfl, m16, rfl, m18, m19, m20, m21, m22⟩⟩) hW
    · refine lv_if_eq (tgt := 31) hx hb dX4_falls_13 (by decide) (fun c_13 => ?_) (fun c_13 => absurd c_13 (by decide))
      refine lv_iconst (v := 0) hx hb dX4_falls_31 (by decide) ?_
      refine lv_istore (lv' := [(4, .int 0), (0, .ref (ad 0)), (1, .int (nI k0)), (2, .int a1), (3, .int a2)]) hx hb dX4_falls_32 hl (by decide) rfl (fun ls hl => ?_)
      refine lv_iload_n hx hb dX4_falls_34 rfl (lv_at hl 2 rfl) ?_
      refine lv_if_lt (tgt := 61) hx hb dX4_falls_35 (by decide) (fun c_35 => absurd c_35 (nI_pos (by omega))) (fun c_35 => ?_)
      refine lv_iload_n hx hb dX4_falls_38 rfl (lv_at hl 2 rfl) ?_
      refine lv_aload_n hx hb dX4_falls_39 rfl (lv_at hl 1 rfl) ?_
      refine gM0_things hF hW q1103 (v := nI (cT S.1).length) (m6) dX4_falls_40 ?_
      refine lv_icmp_ge (tgt := 61) hx hb dX4_falls_43 (by decide) (fun c_43 => absurd (le_le c_43) (by omega)) (fun c_43 => ?_)
      refine lv_iload hx hb dX4_falls_46 (lv_at hl 0 rfl) ?_
      refine lv_if_eq (tgt := 67) hx hb dX4_falls_48 (by decide) (fun c_48 => ?_) (fun c_48 => absurd c_48 (by decide))
      refine lv_iload hx hb dX4_falls_67 (lv_at hl 0 rfl) ?_
      refine lv_if_ne (tgt := 78) hx hb dX4_falls_69 (by decide) (fun c_69 => absurd c_69 (by decide)) (fun c_69 => ?_)
      refine lv_aload_n hx hb dX4_falls_72 rfl (lv_at hl 1 rfl) ?_
      refine lv_iconst (v := 2) hx hb dX4_falls_73 (by decide) ?_
      refine cl_i (ru_V (As := [.int 2]) (rest := []) hF (mX4_refused l G ad (xi y 0 0) W0 2) (cwV 1 hts (lw_V q1255 q1257 qs29 q66 q1258) rfl rfl rfl (by decide +kernel) ⟨lb hR1 rfl, lb hR4 rfl⟩) hW (List.mem_of_getElem? (i := 0) rfl) (ci := 20) rfl rfl rfl hl.1 rfl (lv_room (Nat.le_of_ble_eq_true rfl)) dX4_falls_74 ⟨by omega, by omega⟩) hW (fun r_40 u_41 H locs h_42 hW => ?_)
      obtain ⟨rfl, rfl⟩ : r_40 = (-1) ∧ u_41 = _ := h_42
      have hW : pM G (MWl G ad (xi (xi (xi y 0 0) 1 2) 2 (-1)) ++ W0) s _ _ := hW
      exact re_i hF hRt hLk hQ (by omega) (by omega) dX4_falls_77 ((xi (xi (xi y 0 0) 1 2) 2 (-1)), (rfS S 2).1) (⟨by unfold fallsS; rw [hi0]; exact ⟨fun _ => rfl, fun z => absurd z (fun z => b_10 z.1)⟩, ⟨m0, m1, m2, m3, m4, m5, m6, m7, m8, m9, m10, m11, m12, m13, m14, rfl, m16, rfl, m18, m19, m20, m21, m22⟩⟩) hW
