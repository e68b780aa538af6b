/-! what is read: texts as lists -/
abbrev Tx : Type := List (List Nat) × List Nat × List (Nat × Nat × Nat)
abbrev lkC (q : Nat × Nat × Nat) : va_E := .inr (5, [.int (nI q.1), .int (nI q.2.1), .int (nI q.2.2)])
def HTc (G : pG) (Y : va_W) (t : Tx) (nf lf : Nat → Option Nat) (wf : Nat → Int32) : Prop :=
  (∀ k, k < t.1.length → ∃ sa, nf k = some sa ∧ HS G Y sa (t.1.getD k [])) ∧ (∀ k, k < t.1.length → wf k = nI (t.2.1.getD k 0)) ∧ (∀ k, k < t.2.2.length → ∃ la, lf k = some la ∧ (la, lkC (t.2.2.getD k (0, 0, 0))) ∈ Y)
def TxOk (nW mp ml : Nat) (t : Tx) : Prop := t.1.Nodup ∧ t.2.1.length = t.1.length ∧ t.1.length ≤ mp ∧ t.2.2.length ≤ ml ∧ (∀ w ∈ t.2.1, w < nW) ∧ (∀ l ∈ t.2.2, l.1 < t.1.length ∧ l.2.1 < nW ∧ l.2.2 < t.1.length)
theorem HTc.mono {G : pG} {Y Y1 : va_W} {t : Tx} {nf lf : Nat → Option Nat} {wf : Nat → Int32} (h : HTc G Y t nf lf wf) (hs : ∀ q ∈ Y, q ∈ Y1) : HTc G Y1 t nf lf wf :=
  ⟨fun k hk => by obtain ⟨sa, h1, h2⟩ := h.1 k hk; exact ⟨sa, h1, h2.mono hs⟩, h.2.1, fun k hk => by obtain ⟨la, h1, h2⟩ := h.2.2 k hk; exact ⟨la, h1, hs _ h2⟩⟩
theorem getD_l {α : Type} {l : List α} {a d : α} {k : Nat} (h : k < l.length) : (l ++ [a]).getD k d = l.getD k d := by
  rw [List.getD_eq_getElem?_getD, List.getD_eq_getElem?_getD, List.getElem?_append_left h]
theorem getD_e {α : Type} {l : List α} {a d : α} : (l ++ [a]).getD l.length d = a := by
  rw [List.getD_eq_getElem?_getD, List.getElem?_append_right (Nat.le_refl _)]
  simp
theorem HTc.part {G : pG} {Y : va_W} {t : Tx} {nf lf : Nat → Option Nat} {wf : Nat → Int32} {sa w : Nat} {nm : List Nat} (h : HTc G Y t nf lf wf) (hl : t.2.1.length = t.1.length) (hs : HS G Y sa nm) : HTc G Y (t.1 ++ [nm], t.2.1 ++ [w], t.2.2) (va_up nf t.1.length (some sa)) lf (va_up wf t.1.length (nI w)) := by
  refine ⟨fun k hk => ?_, fun k hk => ?_, h.2.2⟩
  · have hk : k < (t.1 ++ [nm]).length := hk
    rw [List.length_append] at hk
    have hk : k < t.1.length + 1 := hk
    by_cases he : k = t.1.length
    · subst he
      exact ⟨sa, up_s, by show HS G Y sa ((t.1 ++ [nm]).getD t.1.length []); rw [getD_e]; exact hs⟩
    · obtain ⟨s1, h1, h2⟩ := h.1 k (by omega)
      exact ⟨s1, by rw [up_n he]; exact h1, by show HS G Y s1 ((t.1 ++ [nm]).getD k []); rw [getD_l (by omega)]; exact h2⟩
  · have hk : k < (t.1 ++ [nm]).length := hk
    rw [List.length_append] at hk
    have hk : k < t.1.length + 1 := hk
    show va_up wf t.1.length (nI w) k = nI ((t.2.1 ++ [w]).getD k 0)
    by_cases he : k = t.1.length
    · rw [he, up_s, ← hl, getD_e]
    · rw [up_n he, getD_l (by omega)]
      exact h.2.1 k (by omega)
theorem HTc.link {G : pG} {Y : va_W} {t : Tx} {nf lf : Nat → Option Nat} {wf : Nat → Int32} {la : Nat} {q : Nat × Nat × Nat} (h : HTc G Y t nf lf wf) (hq : (la, lkC q) ∈ Y) : HTc G Y (t.1, t.2.1, t.2.2 ++ [q]) nf (va_up lf t.2.2.length (some la)) wf := by
  refine ⟨h.1, h.2.1, fun k hk => ?_⟩
  have hk : k < (t.2.2 ++ [q]).length := hk
  rw [List.length_append] at hk
  have hk : k < t.2.2.length + 1 := hk
  by_cases he : k = t.2.2.length
  · subst he
    exact ⟨la, up_s, by show (la, lkC ((t.2.2 ++ [q]).getD t.2.2.length (0, 0, 0))) ∈ Y; rw [getD_e]; exact hq⟩
  · obtain ⟨s1, h1, h2⟩ := h.2.2 k (by omega)
    exact ⟨s1, by rw [up_n he]; exact h1, by show (s1, lkC ((t.2.2 ++ [q]).getD k (0, 0, 0))) ∈ Y; rw [getD_l (by omega)]; exact h2⟩
theorem TxOk.part {nW mp ml : Nat} {t : Tx} {nm : List Nat} {w : Nat} (h : TxOk nW mp ml t) (hn : pix t.1 nm = none) (hw : w < nW) (hm : t.1.length ≠ mp) : TxOk nW mp ml (t.1 ++ [nm], t.2.1 ++ [w], t.2.2) := by
  obtain ⟨h1, h2, h3, h4, h5, h6⟩ := h
  refine ⟨?_, ?_, ?_, h4, ?_, ?_⟩
  · refine List.nodup_append.mpr ⟨h1, List.nodup_cons.mpr ⟨List.not_mem_nil, List.nodup_nil⟩, ?_⟩
    intro a ha b hb hab
    rw [List.mem_singleton.mp hb] at hab
    subst hab
    obtain ⟨k, hk, e⟩ := List.getElem_of_mem ha
    have e2 : t.1.getD k [] = a := by rw [List.getD_eq_getElem?_getD, List.getElem?_eq_getElem hk]; exact e
    rw [pix_of h1 hk e2] at hn
    cases hn
  · show (t.2.1 ++ [w]).length = (t.1 ++ [nm]).length
    rw [List.length_append, List.length_append, h2]
    rfl
  · show (t.1 ++ [nm]).length ≤ mp
    rw [List.length_append]
    show t.1.length + 1 ≤ mp
    omega
  · intro w1 hw1
    rcases List.mem_append.mp hw1 with z | z
    · exact h5 w1 z
    · rw [List.mem_singleton.mp z]; exact hw
  · intro l hl
    have := h6 l hl
    show l.1 < (t.1 ++ [nm]).length ∧ l.2.1 < nW ∧ l.2.2 < (t.1 ++ [nm]).length
    rw [List.length_append]
    show l.1 < t.1.length + 1 ∧ l.2.1 < nW ∧ l.2.2 < t.1.length + 1
    omega
theorem TxOk.link {nW mp ml : Nat} {t : Tx} {q : Nat × Nat × Nat} (h : TxOk nW mp ml t) (hq : q.1 < t.1.length ∧ q.2.1 < nW ∧ q.2.2 < t.1.length) (hm : t.2.2.length ≠ ml) : TxOk nW mp ml (t.1, t.2.1, t.2.2 ++ [q]) := by
  obtain ⟨h1, h2, h3, h4, h5, h6⟩ := h
  refine ⟨h1, h2, h3, ?_, h5, ?_⟩
  · show (t.2.2 ++ [q]).length ≤ ml
    rw [List.length_append]
    show t.2.2.length + 1 ≤ ml
    omega
  · intro l hl
    rcases List.mem_append.mp hl with z | z
    · exact h6 l z
    · rw [List.mem_singleton.mp z]; exact hq
/-- a link's item from e on: the fault and its place, or the link -/
def lnkF (f : Nat → Int32) (n : Nat) (wds : List (List Nat)) (t : Tx) (ml e : Nat) : (Nat × Nat) ⊕ (Nat × Nat × Nat) :=
  if tkK f n (tkE f n e) ≠ 2 then .inl (1, skA f n (tkE f n e)) else
  match pix t.1 (tkW f n e) with
  | none => .inl (2, skA f n e)
  | some a => match pix wds (tkW f n (tkE f n e)) with
    | none => .inl (2, skA f n (tkE f n e))
    | some w => if tkK f n (tkE f n (tkE f n e)) ≠ 2 then .inl (1, skA f n (tkE f n (tkE f n e))) else
      match pix t.1 (tkW f n (tkE f n (tkE f n e))) with
      | none => .inl (2, skA f n (tkE f n (tkE f n e)))
      | some b => if (a, w, b) ∈ t.2.2 then .inl (3, skA f n e) else if t.2.2.length = ml then .inl (4, skA f n e) else .inr (a, w, b)
theorem has_iff {l : List (Nat × Nat × Nat)} {a w b B : Nat} (hB : B ≤ 65536) (hl : ∀ q ∈ l, q.1 < B ∧ q.2.1 < B ∧ q.2.2 < B) (ha : a < B) (hw : w < B) (hb : b < B) : (∃ k, k < l.length ∧ nI (l.getD k (0, 0, 0)).1 = nI a ∧ nI (l.getD k (0, 0, 0)).2.1 = nI w ∧ nI (l.getD k (0, 0, 0)).2.2 = nI b) ↔ (a, w, b) ∈ l := by
  constructor
  · rintro ⟨k, hk, h1, h2, h3⟩
    have hm : l.getD k (0, 0, 0) ∈ l := by rw [List.getD_eq_getElem?_getD, List.getElem?_eq_getElem hk]; exact List.getElem_mem hk
    obtain ⟨b1, b2, b3⟩ := hl _ hm
    have e1 := eq_eq h1
    have e2 := eq_eq h2
    have e3 := eq_eq h3
    rw [← e1, ← e2, ← e3]
    exact hm
  · intro hm
    obtain ⟨k, hk, e⟩ := List.getElem_of_mem hm
    have e2 : l.getD k (0, 0, 0) = (a, w, b) := by rw [List.getD_eq_getElem?_getD, List.getElem?_eq_getElem hk]; exact e
    exact ⟨k, hk, by rw [e2], by rw [e2], by rw [e2]⟩

set_option maxRecDepth 100000 in
set_option maxHeartbeats 4000000 in
theorem mX1_part_ok (l : Launch) (G : pG) (ad : Nat → Nat) (x : XV) (T : va_W) (v lt0 : Nat → Int32) (wd0 : Option Nat) (a an aw al nl : Nat) (nf lf : Nat → Option Nat) (wf : Nat → Int32) (nms : List (List Nat)) (sa : Nat) (nm : List Nat) (hp : Wrep G T nf nms) (hs : HS G T sa nm) (hnp : nms.length ≤ 8) (hnd : nms.Nodup) (k : Nat) (plc : Int32) (hix : pix nms nm = some k) : Met l yX1_part (ws_ yX1_part cX1_part 5 (some .int)) ({ frames := 3, cells := 0, slots := 0, locals := 66 } : Room) (va_Pc [.ref (ad 2), .ref a, .ref sa, .int plc] (fun U => pW G (HWl G ad (rdx x v lt0 wd0) ++ ((a, .inr (4, [.ref an, .ref aw, .ref al, .int (nI nms.length), .int (nI nl)])) :: (an, .inl (G.2.2.1 4, 8, .inr (.inr (.inr (.inr nf))))) :: (aw, .inl (G.2.2.1 0, 8, .inl wf)) :: (al, .inl (G.2.2.1 10, 10, .inr (.inr (.inr (.inr lf))))) :: T)) U)) (va_Qi (fun r (_ : Unit) => r = nI k) (fun (u : Unit) t9 => pW G (HWl G ad (rdx x v lt0 wd0) ++ ((a, .inr (4, [.ref an, .ref aw, .ref al, .int (nI nms.length), .int (nI nl)])) :: (an, .inl (G.2.2.1 4, 8, .inr (.inr (.inr (.inr nf))))) :: (aw, .inl (G.2.2.1 0, 8, .inl wf)) :: (al, .inl (G.2.2.1 10, 10, .inr (.inr (.inr (.inr lf))))) :: T)) t9) (pA G)) 0 0 (pA G) := by
  refine mw (by decide) (Nat.le_of_ble_eq_true rfl) ?_
  intro pp ee R s m below meth c ls Q hF hRt hLk hnm hR hQ hW hl
  have hx := hF.1
  have hb := hF.2.1
  have hts := hF.2.2.2.2
  have hR1 : R.frames = 3 := by rw [hR]
  have hR2 : R.cells = 0 := by rw [hR]
  have hR3 : R.slots = 0 := by rw [hR]
  have hR4 : R.locals = 66 := by rw [hR]
  have hl : lv_has ls 5 [(0, .ref (ad 2)), (1, .ref a), (2, .ref sa), (3, .int plc)] := hl
  have hW : pM G (HWl G ad (rdx x v lt0 wd0) ++ ((a, .inr (4, [.ref an, .ref aw, .ref al, .int (nI nms.length), .int (nI nl)])) :: (an, .inl (G.2.2.1 4, 8, .inr (.inr (.inr (.inr nf))))) :: (aw, .inl (G.2.2.1 0, 8, .inl wf)) :: (al, .inl (G.2.2.1 10, 10, .inr (.inr (.inr (.inr lf))))) :: T)) s s.heap [] := hW
  refine lv_aload_n hx hb dX1_part_0 rfl (lv_at hl 1 rfl) ?_
  refine lv_aload_n hx hb dX1_part_1 rfl (lv_at hl 2 rfl) ?_
  refine cl_i (ru_V (As := [.ref sa]) (rest := []) hF (mX10_partOf l G (HWl G ad (rdx x v lt0 wd0)) T a an aw al nms.length nl nf lf wf (fun k => nms.getD k []) nm sa hp hs hnp) (cwV 1 hts (lw_V q592 q593 q594 q77 q595) rfl rfl rfl (by decide +kernel) ⟨lb hR1 rfl, lb hR4 rfl⟩) hW (ms_r (List.mem_of_getElem? (i := 0) rfl)) (ci := 4) rfl rfl rfl hl.1 rfl (lv_room (Nat.le_of_ble_eq_true rfl)) dX1_part_2 ⟨by omega, by omega⟩) hW (fun r_ u_ H locs h_ hW => ?_)
  have hW : pM G (HWl G ad (rdx x v lt0 wd0) ++ ((a, .inr (4, [.ref an, .ref aw, .ref al, .int (nI nms.length), .int (nI nl)])) :: (an, .inl (G.2.2.1 4, 8, .inr (.inr (.inr (.inr nf))))) :: (aw, .inl (G.2.2.1 0, 8, .inl wf)) :: (al, .inl (G.2.2.1 10, 10, .inr (.inr (.inr (.inr lf))))) :: T)) s _ _ := hW
  obtain rfl : r_ = nI k := pix_r2 hnd hix h_
  refine lv_istore (lv' := [(4, .int (nI k)), (0, .ref (ad 2)), (1, .ref a), (2, .ref sa), (3, .int plc)]) hx hb dX1_part_5 hl (by decide) rfl (fun ls hl => ?_)
  refine lv_iload hx hb dX1_part_7 (lv_at hl 0 rfl) ?_
  refine lv_iconst (v := (-1)) hx hb dX1_part_9 (by decide) ?_
  refine lv_icmp_ne (tgt := 20) hx hb dX1_part_10 (by decide) (fun c_10 => ?_) (fun c_10 => absurd c_10 (nI_ne_m1 (by have := (pix_some hix).1; omega)))
  refine lv_iload hx hb dX1_part_20 (lv_at hl 0 rfl) ?_
  exact re_i hF hRt hLk hQ (by omega) (by omega) dX1_part_22 () (rfl) hW

set_option maxRecDepth 100000 in
set_option maxHeartbeats 4000000 in
theorem mX1_part_no (l : Launch) (G : pG) (ad : Nat → Nat) (x : XV) (T : va_W) (v lt0 : Nat → Int32) (wd0 : Option Nat) (a an aw al nl : Nat) (nf lf : Nat → Option Nat) (wf : Nat → Int32) (nms : List (List Nat)) (sa : Nat) (nm : List Nat) (hp : Wrep G T nf nms) (hs : HS G T sa nm) (hnp : nms.length ≤ 8) (hnd : nms.Nodup) (plc : Nat) (hix : pix nms nm = none) : vx_Met l yX1_part (ws_ yX1_part cX1_part 5 (some .int)) ({ frames := 3, cells := 0, slots := 0, locals := 66 } : Room) (va_Pc [.ref (ad 2), .ref a, .ref sa, .int (nI plc)] (fun U => pW G (HWl G ad (rdx x v lt0 wd0) ++ ((a, .inr (4, [.ref an, .ref aw, .ref al, .int (nI nms.length), .int (nI nl)])) :: (an, .inl (G.2.2.1 4, 8, .inr (.inr (.inr (.inr nf))))) :: (aw, .inl (G.2.2.1 0, 8, .inl wf)) :: (al, .inl (G.2.2.1 10, 10, .inr (.inr (.inr (.inr lf))))) :: T)) U)) (va_Qi (fun _ (_ : Unit) => False) (fun (u : Unit) t9 => pW G (HWl G ad (rdx x v lt0 wd0) ++ ((a, .inr (4, [.ref an, .ref aw, .ref al, .int (nI nms.length), .int (nI nl)])) :: (an, .inl (G.2.2.1 4, 8, .inr (.inr (.inr (.inr nf))))) :: (aw, .inl (G.2.2.1 0, 8, .inl wf)) :: (al, .inl (G.2.2.1 10, 10, .inr (.inr (.inr (.inr lf))))) :: T)) t9) (pA G)) (pX G RX2 (fun (u : RS) => PX4 2 plc u) (fun _ => ad 4) (fun u => HWl G ad (rdx x u.1 u.2.1 u.2.2.1) ++ ((a, .inr (4, [.ref an, .ref aw, .ref al, .int (nI nms.length), .int (nI nl)])) :: (an, .inl (G.2.2.1 4, 8, .inr (.inr (.inr (.inr nf))))) :: (aw, .inl (G.2.2.1 0, 8, .inl wf)) :: (al, .inl (G.2.2.1 10, 10, .inr (.inr (.inr (.inr lf))))) :: (T ++ u.2.2.2)))) 0 0 (pA G) := by
  refine mx (by decide) (Nat.le_of_ble_eq_true rfl) ?_
  intro pp ee R s m below meth c ls Q hF hRt hLk htab hR hQx hQ hW hl
  have hx := hF.1
  have hb := hF.2.1
  have hts := hF.2.2.2.2
  have hR1 : R.frames = 3 := by rw [hR]
  have hR2 : R.cells = 0 := by rw [hR]
  have hR3 : R.slots = 0 := by rw [hR]
  have hR4 : R.locals = 66 := by rw [hR]
  have hl : lv_has ls 5 [(0, .ref (ad 2)), (1, .ref a), (2, .ref sa), (3, .int (nI plc))] := hl
  have hW : pM G (HWl G ad (rdx x v lt0 wd0) ++ ((a, .inr (4, [.ref an, .ref aw, .ref al, .int (nI nms.length), .int (nI nl)])) :: (an, .inl (G.2.2.1 4, 8, .inr (.inr (.inr (.inr nf))))) :: (aw, .inl (G.2.2.1 0, 8, .inl wf)) :: (al, .inl (G.2.2.1 10, 10, .inr (.inr (.inr (.inr lf))))) :: T)) s s.heap [] := hW
  refine lv_aload_n hx hb dX1_part_0 rfl (lv_at hl 1 rfl) ?_
  refine lv_aload_n hx hb dX1_part_1 rfl (lv_at hl 2 rfl) ?_
  refine cl_i (ru_V (As := [.ref sa]) (rest := []) hF (mX10_partOf l G (HWl G ad (rdx x v lt0 wd0)) T a an aw al nms.length nl nf lf wf (fun k => nms.getD k []) nm sa hp hs hnp) (cwV 1 hts (lw_V q592 q593 q594 q77 q595) rfl rfl rfl (by decide +kernel) ⟨lb hR1 rfl, lb hR4 rfl⟩) hW (ms_r (List.mem_of_getElem? (i := 0) rfl)) (ci := 4) rfl rfl rfl hl.1 rfl (lv_room (Nat.le_of_ble_eq_true rfl)) dX1_part_2 ⟨by omega, by omega⟩) hW (fun r_ u_ H locs h_ hW => ?_)
  have hW : pM G (HWl G ad (rdx x v lt0 wd0) ++ ((a, .inr (4, [.ref an, .ref aw, .ref al, .int (nI nms.length), .int (nI nl)])) :: (an, .inl (G.2.2.1 4, 8, .inr (.inr (.inr (.inr nf))))) :: (aw, .inl (G.2.2.1 0, 8, .inl wf)) :: (al, .inl (G.2.2.1 10, 10, .inr (.inr (.inr (.inr lf))))) :: T)) s _ _ := hW
  obtain rfl : r_ = -1 := pix_r1 hnd hix h_
  refine lv_istore (lv' := [(4, .int (-1)), (0, .ref (ad 2)), (1, .ref a), (2, .ref sa), (3, .int (nI plc))]) hx hb dX1_part_5 hl (by decide) rfl (fun ls hl => ?_)
  refine lv_iload hx hb dX1_part_7 (lv_at hl 0 rfl) ?_
  refine lv_iconst (v := (-1)) hx hb dX1_part_9 (by decide) ?_
  refine lv_icmp_ne (tgt := 20) hx hb dX1_part_10 (by decide) (fun c_10 => absurd c_10 (by decide)) (fun c_10 => ?_)
  refine lv_aload_n hx hb dX1_part_13 rfl (lv_at hl 1 rfl) ?_
  refine lv_iconst (v := 2) hx hb dX1_part_14 (by decide) ?_
  refine lv_iload_n hx hb dX1_part_15 rfl (lv_at hl 4 rfl) ?_
  refine cl_q (ru_V (As := [.int 2, .int (nI plc)]) (rest := []) hF (mX1_fail l G ad x ((a, .inr (4, [.ref an, .ref aw, .ref al, .int (nI nms.length), .int (nI nl)])) :: (an, .inl (G.2.2.1 4, 8, .inr (.inr (.inr (.inr nf))))) :: (aw, .inl (G.2.2.1 0, 8, .inl wf)) :: (al, .inl (G.2.2.1 10, 10, .inr (.inr (.inr (.inr lf))))) :: T) v lt0 wd0 2 (nI plc)) (cwV 2 hts (lw_V q583 q585 qs13 q60 q586) rfl rfl rfl (by decide +kernel) ⟨lb hR1 rfl, lb hR4 rfl⟩) hW (List.mem_of_getElem? (i := 2) rfl) (ci := 1) rfl rfl rfl hl.1 rfl (lv_room (Nat.le_of_ble_eq_true rfl)) dX1_part_16 ⟨by omega, by omega⟩) hW (fun r_1 u_2 H locs h_3 hW => ?_)
  obtain ⟨rfl, rfl⟩ : r_1 = some (ad 4) ∧ u_2 = (va_up (va_up (va_up v 18 4) 19 2) 20 (nI plc)) := h_3
  have hW : pM G (HWl G ad (rdx x (va_up (va_up (va_up v 18 4) 19 2) 20 (nI plc)) lt0 wd0) ++ ((a, .inr (4, [.ref an, .ref aw, .ref al, .int (nI nms.length), .int (nI nl)])) :: (an, .inl (G.2.2.1 4, 8, .inr (.inr (.inr (.inr nf))))) :: (aw, .inl (G.2.2.1 0, 8, .inl wf)) :: (al, .inl (G.2.2.1 10, 10, .inr (.inr (.inr (.inr lf))))) :: T)) s _ _ := hW
  refine lv_eqv (y := .ref (ad 4)) rfl ?_
  refine vx_athrow hx hb dX1_part_19 ?_
  exact ox htab hLk hQx (by omega) (by omega) ((va_up (va_up (va_up v 18 4) 19 2) 20 (nI plc)), lt0, wd0, []) (⟨rfl, rfl, rfl⟩) (by simpa only [List.append_assoc, List.append_nil, List.cons_append, List.nil_append] using hW) (List.mem_of_getElem? (i := 4) rfl) (ci := 2) rfl

set_option maxRecDepth 100000 in
set_option maxHeartbeats 4000000 in
theorem mX1_link (l : Launch) (G : pG) (ad : Nat → Nat) (x : XV) (T : va_W) (v lt0 : Nat → Int32) (wd0 : Option Nat) (n : Nat) (wds : List (List Nat)) (hw : Wrep G T (x.2.2.1 0) wds) (hnw : wds.length ≤ 60) (h1 : x.1 1 = nI wds.length) (hndw : wds.Nodup) (a an aw al : Nat) (nf lf : Nat → Option Nat) (wf : Nat → Int32) (t : Tx) (ht : HTc G T t nf lf wf) (mp ml : Nat) (hok : TxOk wds.length mp ml t) (hmp : mp ≤ 8) (hml : ml ≤ 10) (hn : n ≤ 300) (e e1 : Nat) (hee : e ≤ n) (he1 : e1 = tkE (x.2.1 0) n e) (t14 : v 14 = nI n) (t15 : v 15 = nI (tkE (x.2.1 0) n e1)) (t16 : v 16 = nI (tkK (x.2.1 0) n e1)) (t17 : v 17 = nI (skA (x.2.1 0) n e1)) (tw : tkK (x.2.1 0) n e1 = 2 → ∃ a, wd0 = some a ∧ HS G T a (tkW (x.2.1 0) n e1)) (sa : Nat) (hsa : HS G T sa (tkW (x.2.1 0) n e)) : vx_Met l yX1_link (ws_ yX1_link cX1_link 9 none) ({ frames := 6, cells := 5, slots := 31, locals := 143 } : Room) (va_Pc [.ref (ad 2), .ref (ad 0), .ref a, .ref sa, .int (nI (skA (x.2.1 0) n e)), .int (nI ml)] (fun U => pW G (HWl G ad (rdx x v lt0 wd0) ++ ((a, .inr (4, [.ref an, .ref aw, .ref al, .int (nI t.1.length), .int (nI t.2.2.length)])) :: (an, .inl (G.2.2.1 4, 8, .inr (.inr (.inr (.inr nf))))) :: (aw, .inl (G.2.2.1 0, 8, .inl wf)) :: (al, .inl (G.2.2.1 10, 10, .inr (.inr (.inr (.inr lf))))) :: T)) U)) (va_Qv (fun (u : (Nat × Nat × Nat) × Nat × RS) => lnkF (x.2.1 0) n wds t ml e = .inr u.1 ∧ (u.2.1, lkC u.1) ∈ T ++ u.2.2.2.2.2 ∧ u.2.2.1 14 = nI n ∧ u.2.2.1 15 = nI (tkE (x.2.1 0) n (tkE (x.2.1 0) n (tkE (x.2.1 0) n e1))) ∧ u.2.2.1 16 = nI (tkK (x.2.1 0) n (tkE (x.2.1 0) n (tkE (x.2.1 0) n e1))) ∧ u.2.2.1 17 = nI (skA (x.2.1 0) n (tkE (x.2.1 0) n (tkE (x.2.1 0) n e1))) ∧ (tkK (x.2.1 0) n (tkE (x.2.1 0) n (tkE (x.2.1 0) n e1)) = 2 → ∃ a, u.2.2.2.2.1 = some a ∧ HS G u.2.2.2.2.2 a (tkW (x.2.1 0) n (tkE (x.2.1 0) n (tkE (x.2.1 0) n e1))))) (fun (u : (Nat × Nat × Nat) × Nat × RS) t9 => pW G (HWl G ad (rdx x u.2.2.1 u.2.2.2.1 u.2.2.2.2.1) ++ ((a, .inr (4, [.ref an, .ref aw, .ref al, .int (nI t.1.length), .int (nI (t.2.2.length + 1))])) :: (an, .inl (G.2.2.1 4, 8, .inr (.inr (.inr (.inr nf))))) :: (aw, .inl (G.2.2.1 0, 8, .inl wf)) :: (al, .inl (G.2.2.1 10, 10, .inr (.inr (.inr (.inr (va_up lf t.2.2.length (some u.2.1))))))) :: (T ++ u.2.2.2.2.2))) t9) (pA G)) (pX G RX2 (fun (u : RS) => ∃ flt plc, lnkF (x.2.1 0) n wds t ml e = .inl (flt, plc) ∧ PX4 flt plc u) (fun _ => ad 4) (fun u => HWl G ad (rdx x u.1 u.2.1 u.2.2.1) ++ ((a, .inr (4, [.ref an, .ref aw, .ref al, .int (nI t.1.length), .int (nI t.2.2.length)])) :: (an, .inl (G.2.2.1 4, 8, .inr (.inr (.inr (.inr nf))))) :: (aw, .inl (G.2.2.1 0, 8, .inl wf)) :: (al, .inl (G.2.2.1 10, 10, .inr (.inr (.inr (.inr lf))))) :: (T ++ u.2.2.2)))) 5 31 (pA G) := by
  refine mx (by decide) (Nat.le_of_ble_eq_true rfl) ?_
  intro pp ee R s m below meth c ls Q hF hRt hLk htab hR hQx hQ hW hl
  have hx := hF.1
  have hb := hF.2.1
  have hts := hF.2.2.2.2
  have hR1 : R.frames = 6 := by rw [hR]
  have hR2 : R.cells = 5 := by rw [hR]
  have hR3 : R.slots = 31 := by rw [hR]
  have hR4 : R.locals = 143 := by rw [hR]
  have hl : lv_has ls 9 [(0, .ref (ad 2)), (1, .ref (ad 0)), (2, .ref a), (3, .ref sa), (4, .int (nI (skA (x.2.1 0) n e))), (5, .int (nI ml))] := hl
  have hW : pM G (HWl G ad (rdx x v lt0 wd0) ++ ((a, .inr (4, [.ref an, .ref aw, .ref al, .int (nI t.1.length), .int (nI t.2.2.length)])) :: (an, .inl (G.2.2.1 4, 8, .inr (.inr (.inr (.inr nf))))) :: (aw, .inl (G.2.2.1 0, 8, .inl wf)) :: (al, .inl (G.2.2.1 10, 10, .inr (.inr (.inr (.inr lf))))) :: T)) s s.heap [] := hW
  refine lv_aload_n hx hb dX1_link_0 rfl (lv_at hl 0 rfl) ?_
  by_cases hk1 : tkK (x.2.1 0) n e1 = 2
  · obtain ⟨a1, hwd1, hs1⟩ := tw hk1
    refine cl_q (ru_V (As := []) (rest := []) hF (mX1_letters_ok l G ad x ((a, .inr (4, [.ref an, .ref aw, .ref al, .int (nI t.1.length), .int (nI t.2.2.length)])) :: (an, .inl (G.2.2.1 4, 8, .inr (.inr (.inr (.inr nf))))) :: (aw, .inl (G.2.2.1 0, 8, .inl wf)) :: (al, .inl (G.2.2.1 10, 10, .inr (.inr (.inr (.inr lf))))) :: T) v lt0 wd0 a1 (by rw [t16, hk1]; rfl) hwd1 ) (cwV 0 hts (lw_V q579 q581 qs12 q60 q582) rfl rfl rfl (by decide +kernel) ⟨lb hR1 rfl, lb hR4 rfl⟩) hW (List.mem_of_getElem? (i := 2) rfl) (ci := 1) rfl rfl rfl hl.1 rfl (lv_room (Nat.le_of_ble_eq_true rfl)) dX1_link_1 ⟨by omega, by omega⟩) hW (fun r_1 u_2 H locs h_3 hW => ?_)
    obtain rfl : r_1 = some a1 := h_3
    have hW : pM G (HWl G ad (rdx x v lt0 wd0) ++ ((a, .inr (4, [.ref an, .ref aw, .ref al, .int (nI t.1.length), .int (nI t.2.2.length)])) :: (an, .inl (G.2.2.1 4, 8, .inr (.inr (.inr (.inr nf))))) :: (aw, .inl (G.2.2.1 0, 8, .inl wf)) :: (al, .inl (G.2.2.1 10, 10, .inr (.inr (.inr (.inr lf))))) :: T)) s _ _ := hW
    refine lv_eqv (y := .ref a1) rfl ?_
    refine lv_pop hx hb dX1_link_4 rfl ?_
    refine lv_aload_n hx hb dX1_link_5 rfl (lv_at hl 0 rfl) ?_
    refine lv_aload_n hx hb dX1_link_6 rfl (lv_at hl 2 rfl) ?_
    refine lv_aload_n hx hb dX1_link_7 rfl (lv_at hl 3 rfl) ?_
    refine lv_iload hx hb dX1_link_8 (lv_at hl 4 rfl) ?_
    cases hp1 : pix t.1 (tkW (x.2.1 0) n e) with
    | none =>
      refine cx_i (rx_V (As := [.ref a, .ref sa, .int (nI (skA (x.2.1 0) n e))]) (rest := []) hF (mX1_part_no l G ad x T v lt0 wd0 a an aw al t.2.2.length nf lf wf t.1 sa (tkW (x.2.1 0) n e) ((ht.mono (fun q h => h)).1) hsa (Nat.le_trans hok.2.2.1 hmp) hok.1 (skA (x.2.1 0) n e) hp1) (cwV 3 hts (lw_V q610 q612 qs16 q60 q613) rfl rfl rfl (by decide +kernel) ⟨lb hR1 rfl, lb hR4 rfl⟩) hW (List.mem_of_getElem? (i := 2) rfl) (ci := 1) rfl rfl rfl hl.1 rfl (lv_room (Nat.le_of_ble_eq_true rfl)) dX1_link_10 ⟨by omega, by omega⟩) hW (fun u_5 H locs h_6 hW => ?_) (fun r_4 u_5 H locs h_6 hW => ?_)
      · exact ox htab hLk hQx (by omega) (by omega) (u_5.1, u_5.2.1, u_5.2.2.1, [] ++ u_5.2.2.2) (⟨2, skA (x.2.1 0) n e, by show lnkF _ _ _ _ _ _ = _; unfold lnkF; rw [← he1, if_neg (fun z => z hk1)]; rw [hp1], h_6⟩) (by simpa only [List.append_assoc, List.append_nil, List.cons_append, List.nil_append] using hW) (List.mem_of_getElem? (i := 4) rfl) (ci := 2) rfl
      · exact h_6.elim
    | some pa =>
      refine cl_i (ru_V (As := [.ref a, .ref sa, .int (nI (skA (x.2.1 0) n e))]) (rest := []) hF (mX1_part_ok l G ad x T v lt0 wd0 a an aw al t.2.2.length nf lf wf t.1 sa (tkW (x.2.1 0) n e) ((ht.mono (fun q h => h)).1) hsa (Nat.le_trans hok.2.2.1 hmp) hok.1 pa (nI (skA (x.2.1 0) n e)) hp1) (cwV 3 hts (lw_V q610 q612 qs16 q60 q613) rfl rfl rfl (by decide +kernel) ⟨lb hR1 rfl, lb hR4 rfl⟩) hW (List.mem_of_getElem? (i := 2) rfl) (ci := 1) rfl rfl rfl hl.1 rfl (lv_room (Nat.le_of_ble_eq_true rfl)) dX1_link_10 ⟨by omega, by omega⟩) hW (fun r_ u_ H locs h_ hW => ?_)
      obtain rfl : r_ = nI pa := h_
      have hW : pM G (HWl G ad (rdx x v lt0 wd0) ++ ((a, .inr (4, [.ref an, .ref aw, .ref al, .int (nI t.1.length), .int (nI t.2.2.length)])) :: (an, .inl (G.2.2.1 4, 8, .inr (.inr (.inr (.inr nf))))) :: (aw, .inl (G.2.2.1 0, 8, .inl wf)) :: (al, .inl (G.2.2.1 10, 10, .inr (.inr (.inr (.inr lf))))) :: T)) s _ _ := hW
      refine lv_istore (lv' := [(6, .int (nI pa)), (0, .ref (ad 2)), (1, .ref (ad 0)), (2, .ref a), (3, .ref sa), (4, .int (nI (skA (x.2.1 0) n e))), (5, .int (nI ml))]) hx hb dX1_link_13 hl (by decide) rfl (fun ls hl => ?_)
      refine lv_aload_n hx hb dX1_link_15 rfl (lv_at hl 1 rfl) ?_
      refine lv_aload_n hx hb dX1_link_16 rfl (lv_at hl 2 rfl) ?_
      cases hp2 : pix wds (tkW (x.2.1 0) n e1) with
      | none =>
        refine cx_i (rx_V (As := [.ref (ad 0)]) (rest := []) hF (mX1_wordOf_no2 l G ad x ((a, .inr (4, [.ref an, .ref aw, .ref al, .int (nI t.1.length), .int (nI t.2.2.length)])) :: (an, .inl (G.2.2.1 4, 8, .inr (.inr (.inr (.inr nf))))) :: (aw, .inl (G.2.2.1 0, 8, .inl wf)) :: (al, .inl (G.2.2.1 10, 10, .inr (.inr (.inr (.inr lf))))) :: T) v lt0 wd0 a1 (skA (x.2.1 0) n e1) (tkW (x.2.1 0) n e1) (by rw [t16, hk1]; rfl) hwd1 (hs1.mono (fun q h => (List.mem_cons_of_mem _ (List.mem_cons_of_mem _ (List.mem_cons_of_mem _ (List.mem_cons_of_mem _ h)))))) t17 wds (fun k hk => by obtain ⟨sa, q1, q2⟩ := hw k hk; exact ⟨sa, q1, q2.mono (fun q h => List.mem_cons_of_mem _ (List.mem_cons_of_mem _ (List.mem_cons_of_mem _ (List.mem_cons_of_mem _ h))))⟩) hnw h1 hp2 hndw) (cwV 1 hts (lw_V q597 q599 qs14 q60 q600) rfl rfl rfl (by decide +kernel) ⟨lb hR1 rfl, lb hR4 rfl⟩) hW (List.mem_of_getElem? (i := 2) rfl) (ci := 1) rfl rfl rfl hl.1 rfl (lv_room (Nat.le_of_ble_eq_true rfl)) dX1_link_17 ⟨by omega, by omega⟩) hW (fun u_8 H locs h_9 hW => ?_) (fun r_7 u_8 H locs h_9 hW => ?_)
        · exact ox htab hLk hQx (by omega) (by omega) (u_8.1, u_8.2.1, u_8.2.2.1, u_8.2.2.2) (⟨2, skA (x.2.1 0) n e1, by show lnkF _ _ _ _ _ _ = _; unfold lnkF; rw [← he1, if_neg (fun z => z hk1)]; rw [hp1]; dsimp only; rw [hp2], h_9⟩) (by simpa only [List.append_assoc, List.append_nil, List.cons_append, List.nil_append] using hW) (List.mem_of_getElem? (i := 4) rfl) (ci := 2) rfl
        · exact h_9.elim
      | some pw =>
        refine cl_i (ru_V (As := [.ref (ad 0)]) (rest := []) hF (mX1_wordOf_ok l G ad x ((a, .inr (4, [.ref an, .ref aw, .ref al, .int (nI t.1.length), .int (nI t.2.2.length)])) :: (an, .inl (G.2.2.1 4, 8, .inr (.inr (.inr (.inr nf))))) :: (aw, .inl (G.2.2.1 0, 8, .inl wf)) :: (al, .inl (G.2.2.1 10, 10, .inr (.inr (.inr (.inr lf))))) :: T) v lt0 wd0 a1 (tkE (x.2.1 0) n e1) n pw (tkW (x.2.1 0) n e1) (by rw [t16, hk1]; rfl) hwd1 (hs1.mono (fun q h => (List.mem_cons_of_mem _ (List.mem_cons_of_mem _ (List.mem_cons_of_mem _ (List.mem_cons_of_mem _ h)))))) hn t14 t15 (tkE_le (by rw [he1]; exact tkE_le hee)) wds (fun k hk => by obtain ⟨sa, q1, q2⟩ := hw k hk; exact ⟨sa, q1, q2.mono (fun q h => List.mem_cons_of_mem _ (List.mem_cons_of_mem _ (List.mem_cons_of_mem _ (List.mem_cons_of_mem _ h))))⟩) hnw h1 hp2 hndw) (cwV 1 hts (lw_V q597 q599 qs14 q60 q600) rfl rfl rfl (by decide +kernel) ⟨lb hR1 rfl, lb hR4 rfl⟩) hW (List.mem_of_getElem? (i := 2) rfl) (ci := 1) rfl rfl rfl hl.1 rfl (lv_room (Nat.le_of_ble_eq_true rfl)) dX1_link_17 ⟨by omega, by omega⟩) hW (fun r_ u_ H locs h_ hW => ?_)
        obtain ⟨v1, lt1, wd1, N1⟩ := u_
        obtain ⟨rfl, w14, w15, w16, w17, ww⟩ := h_
        have hW : pM G (HWl G ad (rdx x v1 lt1 wd1) ++ ((a, .inr (4, [.ref an, .ref aw, .ref al, .int (nI t.1.length), .int (nI t.2.2.length)])) :: (an, .inl (G.2.2.1 4, 8, .inr (.inr (.inr (.inr nf))))) :: (aw, .inl (G.2.2.1 0, 8, .inl wf)) :: (al, .inl (G.2.2.1 10, 10, .inr (.inr (.inr (.inr lf))))) :: (T ++ N1))) s _ _ := hW
        refine lv_istore (lv' := [(7, .int (nI pw)), (6, .int (nI pa)), (0, .ref (ad 2)), (1, .ref (ad 0)), (2, .ref a), (3, .ref sa), (4, .int (nI (skA (x.2.1 0) n e))), (5, .int (nI ml))]) hx hb dX1_link_20 hl (by decide) rfl (fun ls hl => ?_)
        refine nw (ci := 5) hF hW rfl in_X11 tyX11 tyX11_ok q614 q615 q78 (fs := [.int 0, .int 0, .int 0]) (fun j hj => by match j, hj with | 0, _ => rfl | 1, _ => rfl | 2, _ => rfl) (by omega) (by omega) dX1_link_22 (fun qo_10 H hW => ?_)
        have hW := hW.asc
        have hW : pM G (HWl G ad (rdx x v1 lt1 wd1) ++ ((a, .inr (4, [.ref an, .ref aw, .ref al, .int (nI t.1.length), .int (nI t.2.2.length)])) :: (an, .inl (G.2.2.1 4, 8, .inr (.inr (.inr (.inr nf))))) :: (aw, .inl (G.2.2.1 0, 8, .inl wf)) :: (al, .inl (G.2.2.1 10, 10, .inr (.inr (.inr (.inr lf))))) :: ((T ++ N1) ++ [(qo_10, .inr (5, [.int 0, .int 0, .int 0]))]))) s _ _ := hW
        refine lv_dup hx hb dX1_link_25 rfl ?_
        refine lv_iload hx hb dX1_link_26 (lv_at hl 1 rfl) ?_
        refine lv_iload hx hb dX1_link_28 (lv_at hl 0 rfl) ?_
        refine lv_aload_n hx hb dX1_link_30 rfl (lv_at hl 2 rfl) ?_
        refine lv_aload_n hx hb dX1_link_31 rfl (lv_at hl 4 rfl) ?_
        refine lv_aload_n hx hb dX1_link_32 rfl (lv_at hl 2 rfl) ?_
        by_cases hk2 : tkK (x.2.1 0) n (tkE (x.2.1 0) n e1) = 2
        · obtain ⟨a2, hwd2, hs2⟩ := ww hk2
          refine cl_q (ru_V (As := []) (rest := [.ref a, .ref (ad 2), .int (nI pw), .int (nI pa), .ref qo_10, .ref qo_10]) hF (mX1_letters_ok l G ad x ((a, .inr (4, [.ref an, .ref aw, .ref al, .int (nI t.1.length), .int (nI t.2.2.length)])) :: (an, .inl (G.2.2.1 4, 8, .inr (.inr (.inr (.inr nf))))) :: (aw, .inl (G.2.2.1 0, 8, .inl wf)) :: (al, .inl (G.2.2.1 10, 10, .inr (.inr (.inr (.inr lf))))) :: ((T ++ N1) ++ [(qo_10, .inr (5, [.int 0, .int 0, .int 0]))])) v1 lt1 wd1 a2 (Eq.trans w16 (by rw [hk2]; rfl)) hwd2 ) (cwV 0 hts (lw_V q579 q581 qs12 q60 q582) rfl rfl rfl (by decide +kernel) ⟨lb hR1 rfl, lb hR4 rfl⟩) hW (List.mem_of_getElem? (i := 2) rfl) (ci := 1) rfl rfl rfl hl.1 rfl (lv_room (Nat.le_of_ble_eq_true rfl)) dX1_link_33 ⟨by omega, by omega⟩) hW (fun r_11 u_12 H locs h_13 hW => ?_)
          obtain rfl : r_11 = some a2 := h_13
          have hW : pM G (HWl G ad (rdx x v1 lt1 wd1) ++ ((a, .inr (4, [.ref an, .ref aw, .ref al, .int (nI t.1.length), .int (nI t.2.2.length)])) :: (an, .inl (G.2.2.1 4, 8, .inr (.inr (.inr (.inr nf))))) :: (aw, .inl (G.2.2.1 0, 8, .inl wf)) :: (al, .inl (G.2.2.1 10, 10, .inr (.inr (.inr (.inr lf))))) :: ((T ++ N1) ++ [(qo_10, .inr (5, [.int 0, .int 0, .int 0]))]))) s _ _ := hW
          refine lv_eqv (y := .ref a2) rfl ?_
          refine lv_aload_n hx hb dX1_link_36 rfl (lv_at hl 2 rfl) ?_
          refine gH2_at hF hW q189 (v := nI (skA (x.2.1 0) n (tkE (x.2.1 0) n e1))) (w17) dX1_link_37 ?_
          cases hp3 : pix t.1 (tkW (x.2.1 0) n (tkE (x.2.1 0) n e1)) with
          | none =>
            refine cx_i (rx_V (As := [.ref a, .ref a2, .int (nI (skA (x.2.1 0) n (tkE (x.2.1 0) n e1)))]) (rest := [.int (nI pw), .int (nI pa), .ref qo_10, .ref qo_10]) hF (mX1_part_no l G ad x ((T ++ N1) ++ [(qo_10, .inr (5, [.int 0, .int 0, .int 0]))]) v1 lt1 wd1 a an aw al t.2.2.length nf lf wf t.1 a2 (tkW (x.2.1 0) n (tkE (x.2.1 0) n e1)) ((ht.mono (fun q h => (ms_l (ms_l h)))).1) (hs2.mono (fun q h => ms_l (ms_r h))) (Nat.le_trans hok.2.2.1 hmp) hok.1 (skA (x.2.1 0) n (tkE (x.2.1 0) n e1)) hp3) (cwV 3 hts (lw_V q610 q612 qs16 q60 q613) rfl rfl rfl (by decide +kernel) ⟨lb hR1 rfl, lb hR4 rfl⟩) hW (List.mem_of_getElem? (i := 2) rfl) (ci := 1) rfl rfl rfl hl.1 rfl (lv_room (Nat.le_of_ble_eq_true rfl)) dX1_link_40 ⟨by omega, by omega⟩) hW (fun u_15 H locs h_16 hW => ?_) (fun r_14 u_15 H locs h_16 hW => ?_)
            · exact ox htab hLk hQx (by omega) (by omega) (u_15.1, u_15.2.1, u_15.2.2.1, (N1 ++ [(qo_10, .inr (5, [.int 0, .int 0, .int 0]))]) ++ u_15.2.2.2) (⟨2, skA (x.2.1 0) n (tkE (x.2.1 0) n e1), by show lnkF _ _ _ _ _ _ = _; unfold lnkF; rw [← he1, if_neg (fun z => z hk1)]; rw [hp1]; dsimp only; rw [hp2]; dsimp only; rw [if_neg (fun z => z hk2)]; rw [hp3], h_16⟩) (by simpa only [List.append_assoc, List.append_nil, List.cons_append, List.nil_append] using hW) (List.mem_of_getElem? (i := 4) rfl) (ci := 2) rfl
            · exact h_16.elim
          | some pb =>
            refine cl_i (ru_V (As := [.ref a, .ref a2, .int (nI (skA (x.2.1 0) n (tkE (x.2.1 0) n e1)))]) (rest := [.int (nI pw), .int (nI pa), .ref qo_10, .ref qo_10]) hF (mX1_part_ok l G ad x ((T ++ N1) ++ [(qo_10, .inr (5, [.int 0, .int 0, .int 0]))]) v1 lt1 wd1 a an aw al t.2.2.length nf lf wf t.1 a2 (tkW (x.2.1 0) n (tkE (x.2.1 0) n e1)) ((ht.mono (fun q h => (ms_l (ms_l h)))).1) (hs2.mono (fun q h => ms_l (ms_r h))) (Nat.le_trans hok.2.2.1 hmp) hok.1 pb (nI (skA (x.2.1 0) n (tkE (x.2.1 0) n e1))) hp3) (cwV 3 hts (lw_V q610 q612 qs16 q60 q613) rfl rfl rfl (by decide +kernel) ⟨lb hR1 rfl, lb hR4 rfl⟩) hW (List.mem_of_getElem? (i := 2) rfl) (ci := 1) rfl rfl rfl hl.1 rfl (lv_room (Nat.le_of_ble_eq_true rfl)) dX1_link_40 ⟨by omega, by omega⟩) hW (fun r_ u_ H locs h_ hW => ?_)
            obtain rfl : r_ = nI pb := h_
            have hW : pM G (HWl G ad (rdx x v1 lt1 wd1) ++ ((a, .inr (4, [.ref an, .ref aw, .ref al, .int (nI t.1.length), .int (nI t.2.2.length)])) :: (an, .inl (G.2.2.1 4, 8, .inr (.inr (.inr (.inr nf))))) :: (aw, .inl (G.2.2.1 0, 8, .inl wf)) :: (al, .inl (G.2.2.1 10, 10, .inr (.inr (.inr (.inr lf))))) :: ((T ++ N1) ++ [(qo_10, .inr (5, [.int 0, .int 0, .int 0]))]))) s _ _ := hW
            have hW := pM.csa (A := HWl G ad (rdx x v1 lt1 wd1)) (B := ((a, .inr (4, [.ref an, .ref aw, .ref al, .int (nI t.1.length), .int (nI t.2.2.length)])) :: (an, .inl (G.2.2.1 4, 8, .inr (.inr (.inr (.inr nf))))) :: (aw, .inl (G.2.2.1 0, 8, .inl wf)) :: (al, .inl (G.2.2.1 10, 10, .inr (.inr (.inr (.inr lf))))) :: (T ++ N1))) hW
            refine cl_v (ru_I (As := [.int (nI pa), .int (nI pw), .int (nI pb)]) (rest := [.ref qo_10]) hF (mX11_init l G (HWl G ad (rdx x v1 lt1 wd1) ++ ((a, .inr (4, [.ref an, .ref aw, .ref al, .int (nI t.1.length), .int (nI t.2.2.length)])) :: (an, .inl (G.2.2.1 4, 8, .inr (.inr (.inr (.inr nf))))) :: (aw, .inl (G.2.2.1 0, 8, .inl wf)) :: (al, .inl (G.2.2.1 10, 10, .inr (.inr (.inr (.inr lf))))) :: (T ++ N1))) qo_10 (nI pa) (nI pw) (nI pb)) (cwI 3 hts (lw_meth q618) rfl rfl rfl (hts _ q78) (hts _ q616) (hts _ q617) rfl (by decide +kernel) ⟨lb hR1 rfl, lb hR4 rfl⟩) hW rfl rfl hl.1 rfl (lv_room (Nat.le_of_ble_eq_true rfl)) dX1_link_43 ⟨by omega, by omega⟩) hW (fun u_18 H locs h_19 hW => ?_)
            have hW := hW.asc
            have hW : pM G (HWl G ad (rdx x v1 lt1 wd1) ++ ((a, .inr (4, [.ref an, .ref aw, .ref al, .int (nI t.1.length), .int (nI t.2.2.length)])) :: (an, .inl (G.2.2.1 4, 8, .inr (.inr (.inr (.inr nf))))) :: (aw, .inl (G.2.2.1 0, 8, .inl wf)) :: (al, .inl (G.2.2.1 10, 10, .inr (.inr (.inr (.inr lf))))) :: ((T ++ N1) ++ [(qo_10, .inr (5, [.int (nI pa), .int (nI pw), .int (nI pb)]))]))) s _ _ := hW
            refine lv_astore (lv' := [(8, .ref qo_10), (7, .int (nI pw)), (6, .int (nI pa)), (0, .ref (ad 2)), (1, .ref (ad 0)), (2, .ref a), (3, .ref sa), (4, .int (nI (skA (x.2.1 0) n e))), (5, .int (nI ml))]) hx hb dX1_link_46 hl (by decide) rfl (fun ls hl => ?_)
            refine lv_aload_n hx hb dX1_link_48 rfl (lv_at hl 5 rfl) ?_
            refine lv_aload hx hb dX1_link_49 (lv_at hl 0 rfl) ?_
            have hb9 : (qo_10, .inr (5, [.int (nI pa), .int (nI pw), .int (nI pb)])) ∈ ((T ++ N1) ++ [(qo_10, .inr (5, [.int (nI pa), .int (nI pw), .int (nI pb)]))]) := ms_z
            refine cl_i (ru_V (As := [.ref qo_10]) (rest := []) hF (mX10_has l G (HWl G ad (rdx x v1 lt1 wd1)) ((T ++ N1) ++ [(qo_10, .inr (5, [.int (nI pa), .int (nI pw), .int (nI pb)]))]) a an aw al t.1.length t.2.2.length nf lf wf (fun k => t.2.2.getD k (0, 0, 0)) qo_10 (nI pa) (nI pw) (nI pb) (ht.mono (fun q h => (ms_l (ms_l h)))).2.2 hb9 (Nat.le_trans hok.2.2.2.1 hml)) (cwV 1 hts (lw_V q636 q637 q638 q77 q639) rfl rfl rfl (by decide +kernel) ⟨lb hR1 rfl, lb hR4 rfl⟩) hW (ms_r (List.mem_of_getElem? (i := 0) rfl)) (ci := 4) rfl rfl rfl hl.1 rfl (lv_room (Nat.le_of_ble_eq_true rfl)) dX1_link_51 ⟨by omega, by omega⟩) hW (fun r_ u_ H locs h_ hW => ?_)
            have hW : pM G (HWl G ad (rdx x v1 lt1 wd1) ++ ((a, .inr (4, [.ref an, .ref aw, .ref al, .int (nI t.1.length), .int (nI t.2.2.length)])) :: (an, .inl (G.2.2.1 4, 8, .inr (.inr (.inr (.inr nf))))) :: (aw, .inl (G.2.2.1 0, 8, .inl wf)) :: (al, .inl (G.2.2.1 10, 10, .inr (.inr (.inr (.inr lf))))) :: ((T ++ N1) ++ [(qo_10, .inr (5, [.int (nI pa), .int (nI pw), .int (nI pb)]))]))) s _ _ := hW
            have hpa := (pix_some hp1).1
            have hpb := (pix_some hp3).1
            have hpw := (pix_some hp2).1
            have hlt := hok.2.2.1
            have hin := has_iff (B := 100) (by omega) (fun q hq => by have := hok.2.2.2.2.2 q hq; omega) (show pa < 100 by omega) (show pw < 100 by omega) (show pb < 100 by omega)
            rcases h_ with ⟨rfl, hh⟩ | ⟨rfl, hh⟩
            · have hmem := hin.mp hh
              refine lv_if_eq (tgt := 65) hx hb dX1_link_54 (by decide) (fun c_54 => absurd c_54 (by decide)) (fun c_54 => ?_)
              refine lv_aload_n hx hb dX1_link_57 rfl (lv_at hl 3 rfl) ?_
              refine lv_iconst (v := 3) hx hb dX1_link_58 (by decide) ?_
              refine lv_iload hx hb dX1_link_59 (lv_at hl 7 rfl) ?_
              refine cl_q (ru_V (As := [.int 3, .int (nI (skA (x.2.1 0) n e))]) (rest := []) hF (mX1_fail l G ad x ((a, .inr (4, [.ref an, .ref aw, .ref al, .int (nI t.1.length), .int (nI t.2.2.length)])) :: (an, .inl (G.2.2.1 4, 8, .inr (.inr (.inr (.inr nf))))) :: (aw, .inl (G.2.2.1 0, 8, .inl wf)) :: (al, .inl (G.2.2.1 10, 10, .inr (.inr (.inr (.inr lf))))) :: ((T ++ N1) ++ [(qo_10, .inr (5, [.int (nI pa), .int (nI pw), .int (nI pb)]))])) v1 lt1 wd1 3 (nI (skA (x.2.1 0) n e))) (cwV 2 hts (lw_V q583 q585 qs13 q60 q586) rfl rfl rfl (by decide +kernel) ⟨lb hR1 rfl, lb hR4 rfl⟩) hW (List.mem_of_getElem? (i := 2) rfl) (ci := 1) rfl rfl rfl hl.1 rfl (lv_room (Nat.le_of_ble_eq_true rfl)) dX1_link_61 ⟨by omega, by omega⟩) hW (fun r_20 u_21 H locs h_22 hW => ?_)
              obtain ⟨rfl, rfl⟩ : r_20 = some (ad 4) ∧ u_21 = (va_up (va_up (va_up v1 18 4) 19 3) 20 (nI (skA (x.2.1 0) n e))) := h_22
              have hW : pM G (HWl G ad (rdx x (va_up (va_up (va_up v1 18 4) 19 3) 20 (nI (skA (x.2.1 0) n e))) lt1 wd1) ++ ((a, .inr (4, [.ref an, .ref aw, .ref al, .int (nI t.1.length), .int (nI t.2.2.length)])) :: (an, .inl (G.2.2.1 4, 8, .inr (.inr (.inr (.inr nf))))) :: (aw, .inl (G.2.2.1 0, 8, .inl wf)) :: (al, .inl (G.2.2.1 10, 10, .inr (.inr (.inr (.inr lf))))) :: ((T ++ N1) ++ [(qo_10, .inr (5, [.int (nI pa), .int (nI pw), .int (nI pb)]))]))) s _ _ := hW
              refine lv_eqv (y := .ref (ad 4)) rfl ?_
              refine vx_athrow hx hb dX1_link_64 ?_
              exact ox htab hLk hQx (by omega) (by omega) ((va_up (va_up (va_up v1 18 4) 19 3) 20 (nI (skA (x.2.1 0) n e))), lt1, wd1, (N1 ++ [(qo_10, .inr (5, [.int (nI pa), .int (nI pw), .int (nI pb)]))])) (⟨3, skA (x.2.1 0) n e, (by show lnkF _ _ _ _ _ _ = _; unfold lnkF; rw [← he1, if_neg (fun z => z hk1)]; rw [hp1]; dsimp only; rw [hp2]; dsimp only; rw [if_neg (fun z => z hk2)]; rw [hp3]; dsimp only; rw [if_pos hmem]), rfl, rfl, rfl⟩) (by simpa only [List.append_assoc, List.append_nil, List.cons_append, List.nil_append] using hW) (List.mem_of_getElem? (i := 4) rfl) (ci := 2) rfl
            · have hmem : ¬ (pa, pw, pb) ∈ t.2.2 := fun z => by obtain ⟨k, q1, q2⟩ := hin.mpr z; exact hh k q1 q2
              refine lv_if_eq (tgt := 65) hx hb dX1_link_54 (by decide) (fun c_54 => ?_) (fun c_54 => absurd c_54 (by decide))
              refine lv_aload_n hx hb dX1_link_65 rfl (lv_at hl 5 rfl) ?_
              refine gt hF hW (ms_r (List.mem_of_getElem? (i := 0) rfl)) (ci := 4) rfl in_X10 4 (by decide) q558 rfl (v := .int (nI t.2.2.length)) rfl dX1_link_66 ?_
              refine lv_iload hx hb dX1_link_69 (lv_at hl 8 rfl) ?_
              refine lv_icmp_ne (tgt := 82) hx hb dX1_link_71 (by decide) (fun c_71 => ?_) (fun c_71 => ?_)
              · have hml2 : ¬ t.2.2.length = ml := fun z => c_71 (by rw [z])
                refine lv_aload_n hx hb dX1_link_82 rfl (lv_at hl 5 rfl) ?_
                refine lv_aload hx hb dX1_link_83 (lv_at hl 0 rfl) ?_
                refine cl_v (ru_V (As := [.ref qo_10]) (rest := []) hF (mX10_puts_2 l G (HWl G ad (rdx x v1 lt1 wd1)) ((T ++ N1) ++ [(qo_10, .inr (5, [.int (nI pa), .int (nI pw), .int (nI pb)]))]) a an aw al t.1.length t.2.2.length nf lf wf qo_10 (nI pa) (nI pw) (nI pb) hb9 (by have := hok.2.2.2.1; omega)) (cwV 1 hts (lw_V q644 q645 q646 q77 q647) rfl rfl rfl (by decide +kernel) ⟨lb hR1 rfl, lb hR4 rfl⟩) hW (ms_r (List.mem_of_getElem? (i := 0) rfl)) (ci := 4) rfl rfl rfl hl.1 rfl (lv_room (Nat.le_of_ble_eq_true rfl)) dX1_link_85 ⟨by omega, by omega⟩) hW (fun u_ H locs h_ hW => ?_)
                have hW : pM G (HWl G ad (rdx x v1 lt1 wd1) ++ ((a, .inr (4, [.ref an, .ref aw, .ref al, .int (nI t.1.length), .int (nI (t.2.2.length + 1))])) :: (an, .inl (G.2.2.1 4, 8, .inr (.inr (.inr (.inr nf))))) :: (aw, .inl (G.2.2.1 0, 8, .inl wf)) :: (al, .inl (G.2.2.1 10, 10, .inr (.inr (.inr (.inr (va_up lf t.2.2.length (some qo_10))))))) :: ((T ++ N1) ++ [(qo_10, .inr (5, [.int (nI pa), .int (nI pw), .int (nI pb)]))]))) s _ _ := hW
                refine lv_aload_n hx hb dX1_link_88 rfl (lv_at hl 3 rfl) ?_
                refine cl_v (ru_V (As := []) (rest := []) hF (mX1_next l G ad x ((a, .inr (4, [.ref an, .ref aw, .ref al, .int (nI t.1.length), .int (nI (t.2.2.length + 1))])) :: (an, .inl (G.2.2.1 4, 8, .inr (.inr (.inr (.inr nf))))) :: (aw, .inl (G.2.2.1 0, 8, .inl wf)) :: (al, .inl (G.2.2.1 10, 10, .inr (.inr (.inr (.inr (va_up lf t.2.2.length (some qo_10))))))) :: ((T ++ N1) ++ [(qo_10, .inr (5, [.int (nI pa), .int (nI pw), .int (nI pb)]))])) v1 lt1 wd1 (tkE (x.2.1 0) n (tkE (x.2.1 0) n e1)) n hn w14 w15 (tkE_le (tkE_le (by rw [he1]; exact tkE_le hee)))) (cwV 0 hts (lw_V q382 q384 qs5 q60 q385) rfl rfl rfl (by decide +kernel) ⟨lb hR1 rfl, lb hR4 rfl⟩) hW (List.mem_of_getElem? (i := 2) rfl) (ci := 1) rfl rfl rfl hl.1 rfl (lv_room (Nat.le_of_ble_eq_true rfl)) dX1_link_89 ⟨by omega, by omega⟩) hW (fun u_ H locs h_ hW => ?_)
                obtain ⟨v3, lt3, wd3, N3⟩ := u_
                obtain ⟨z_14, z_15, z_16, z_17, z_w⟩ := h_
                have hW : pM G (HWl G ad (rdx x v3 lt3 wd3) ++ ((a, .inr (4, [.ref an, .ref aw, .ref al, .int (nI t.1.length), .int (nI (t.2.2.length + 1))])) :: (an, .inl (G.2.2.1 4, 8, .inr (.inr (.inr (.inr nf))))) :: (aw, .inl (G.2.2.1 0, 8, .inl wf)) :: (al, .inl (G.2.2.1 10, 10, .inr (.inr (.inr (.inr (va_up lf t.2.2.length (some qo_10))))))) :: (((T ++ N1) ++ [(qo_10, .inr (5, [.int (nI pa), .int (nI pw), .int (nI pb)]))]) ++ N3))) s _ _ := hW
                exact re_v hF hRt hLk hQ (by omega) (by omega) dX1_link_92 ((pa, pw, pb), qo_10, v3, lt3, wd3, (N1 ++ [(qo_10, .inr (5, [.int (nI pa), .int (nI pw), .int (nI pb)]))]) ++ N3) (⟨by show lnkF _ _ _ _ _ _ = _; unfold lnkF; rw [← he1, if_neg (fun z => z hk1)]; rw [hp1]; dsimp only; rw [hp2]; dsimp only; rw [if_neg (fun z => z hk2)]; rw [hp3]; dsimp only; rw [if_neg hmem, if_neg hml2], ms_r (ms_l ms_z), z_14, z_15, z_16, z_17, fun z => by obtain ⟨q, q1, q2⟩ := z_w z; exact ⟨q, q1, q2.mono (fun _ h => ms_r h)⟩⟩) (by simpa only [List.append_assoc, List.append_nil, List.cons_append, List.nil_append] using hW)
              · have hml2 : t.2.2.length = ml := eq_eq c_71 (by have := hok.2.2.2.1; omega) (by omega)
                refine lv_aload_n hx hb dX1_link_74 rfl (lv_at hl 3 rfl) ?_
                refine lv_iconst (v := 4) hx hb dX1_link_75 (by decide) ?_
                refine lv_iload hx hb dX1_link_76 (lv_at hl 7 rfl) ?_
                refine cl_q (ru_V (As := [.int 4, .int (nI (skA (x.2.1 0) n e))]) (rest := []) hF (mX1_fail l G ad x ((a, .inr (4, [.ref an, .ref aw, .ref al, .int (nI t.1.length), .int (nI t.2.2.length)])) :: (an, .inl (G.2.2.1 4, 8, .inr (.inr (.inr (.inr nf))))) :: (aw, .inl (G.2.2.1 0, 8, .inl wf)) :: (al, .inl (G.2.2.1 10, 10, .inr (.inr (.inr (.inr lf))))) :: ((T ++ N1) ++ [(qo_10, .inr (5, [.int (nI pa), .int (nI pw), .int (nI pb)]))])) v1 lt1 wd1 4 (nI (skA (x.2.1 0) n e))) (cwV 2 hts (lw_V q583 q585 qs13 q60 q586) rfl rfl rfl (by decide +kernel) ⟨lb hR1 rfl, lb hR4 rfl⟩) hW (List.mem_of_getElem? (i := 2) rfl) (ci := 1) rfl rfl rfl hl.1 rfl (lv_room (Nat.le_of_ble_eq_true rfl)) dX1_link_78 ⟨by omega, by omega⟩) hW (fun r_23 u_24 H locs h_25 hW => ?_)
                obtain ⟨rfl, rfl⟩ : r_23 = some (ad 4) ∧ u_24 = (va_up (va_up (va_up v1 18 4) 19 4) 20 (nI (skA (x.2.1 0) n e))) := h_25
                have hW : pM G (HWl G ad (rdx x (va_up (va_up (va_up v1 18 4) 19 4) 20 (nI (skA (x.2.1 0) n e))) lt1 wd1) ++ ((a, .inr (4, [.ref an, .ref aw, .ref al, .int (nI t.1.length), .int (nI t.2.2.length)])) :: (an, .inl (G.2.2.1 4, 8, .inr (.inr (.inr (.inr nf))))) :: (aw, .inl (G.2.2.1 0, 8, .inl wf)) :: (al, .inl (G.2.2.1 10, 10, .inr (.inr (.inr (.inr lf))))) :: ((T ++ N1) ++ [(qo_10, .inr (5, [.int (nI pa), .int (nI pw), .int (nI pb)]))]))) s _ _ := hW
                refine lv_eqv (y := .ref (ad 4)) rfl ?_
                refine vx_athrow hx hb dX1_link_81 ?_
                exact ox htab hLk hQx (by omega) (by omega) ((va_up (va_up (va_up v1 18 4) 19 4) 20 (nI (skA (x.2.1 0) n e))), lt1, wd1, (N1 ++ [(qo_10, .inr (5, [.int (nI pa), .int (nI pw), .int (nI pb)]))])) (⟨4, skA (x.2.1 0) n e, (by show lnkF _ _ _ _ _ _ = _; unfold lnkF; rw [← he1, if_neg (fun z => z hk1)]; rw [hp1]; dsimp only; rw [hp2]; dsimp only; rw [if_neg (fun z => z hk2)]; rw [hp3]; dsimp only; rw [if_neg hmem, if_pos hml2]), rfl, rfl, rfl⟩) (by simpa only [List.append_assoc, List.append_nil, List.cons_append, List.nil_append] using hW) (List.mem_of_getElem? (i := 4) rfl) (ci := 2) rfl
        · refine cx_r (rx_V (As := []) (rest := [.ref a, .ref (ad 2), .int (nI pw), .int (nI pa), .ref qo_10, .ref qo_10]) hF (mX1_letters_no l G ad x ((a, .inr (4, [.ref an, .ref aw, .ref al, .int (nI t.1.length), .int (nI t.2.2.length)])) :: (an, .inl (G.2.2.1 4, 8, .inr (.inr (.inr (.inr nf))))) :: (aw, .inl (G.2.2.1 0, 8, .inl wf)) :: (al, .inl (G.2.2.1 10, 10, .inr (.inr (.inr (.inr lf))))) :: ((T ++ N1) ++ [(qo_10, .inr (5, [.int 0, .int 0, .int 0]))])) v1 lt1 wd1 (tkK (x.2.1 0) n (tkE (x.2.1 0) n e1)) (skA (x.2.1 0) n (tkE (x.2.1 0) n e1)) w16 hk2 (tkK_lt _ _ _) w17) (cwV 0 hts (lw_V q579 q581 qs12 q60 q582) rfl rfl rfl (by decide +kernel) ⟨lb hR1 rfl, lb hR4 rfl⟩) hW (List.mem_of_getElem? (i := 2) rfl) (ci := 1) rfl rfl rfl hl.1 rfl (lv_room (Nat.le_of_ble_eq_true rfl)) dX1_link_33 ⟨by omega, by omega⟩) hW (fun u_27 H locs h_28 hW => ?_) (fun u_27 r_26 H locs h_28 hW => ?_)
          · exact ox htab hLk hQx (by omega) (by omega) (u_27.1, u_27.2.1, u_27.2.2.1, (N1 ++ [(qo_10, .inr (5, [.int 0, .int 0, .int 0]))]) ++ u_27.2.2.2) (⟨1, skA (x.2.1 0) n (tkE (x.2.1 0) n e1), by show lnkF _ _ _ _ _ _ = _; unfold lnkF; rw [← he1, if_neg (fun z => z hk1)]; rw [hp1]; dsimp only; rw [hp2]; dsimp only; rw [if_pos hk2], h_28⟩) (by simpa only [List.append_assoc, List.append_nil, List.cons_append, List.nil_append] using hW) (List.mem_of_getElem? (i := 4) rfl) (ci := 2) rfl
          · exact h_28.elim
  · refine cx_r (rx_V (As := []) (rest := []) hF (mX1_letters_no l G ad x ((a, .inr (4, [.ref an, .ref aw, .ref al, .int (nI t.1.length), .int (nI t.2.2.length)])) :: (an, .inl (G.2.2.1 4, 8, .inr (.inr (.inr (.inr nf))))) :: (aw, .inl (G.2.2.1 0, 8, .inl wf)) :: (al, .inl (G.2.2.1 10, 10, .inr (.inr (.inr (.inr lf))))) :: T) v lt0 wd0 (tkK (x.2.1 0) n e1) (skA (x.2.1 0) n e1) t16 hk1 (tkK_lt _ _ _) t17) (cwV 0 hts (lw_V q579 q581 qs12 q60 q582) rfl rfl rfl (by decide +kernel) ⟨lb hR1 rfl, lb hR4 rfl⟩) hW (List.mem_of_getElem? (i := 2) rfl) (ci := 1) rfl rfl rfl hl.1 rfl (lv_room (Nat.le_of_ble_eq_true rfl)) dX1_link_1 ⟨by omega, by omega⟩) hW (fun u_30 H locs h_31 hW => ?_) (fun u_30 r_29 H locs h_31 hW => ?_)
    · exact ox htab hLk hQx (by omega) (by omega) (u_30.1, u_30.2.1, u_30.2.2.1, [] ++ u_30.2.2.2) (⟨1, skA (x.2.1 0) n e1, by show lnkF _ _ _ _ _ _ = _; unfold lnkF; rw [← he1, if_pos hk1], h_31⟩) (by simpa only [List.append_assoc, List.append_nil, List.cons_append, List.nil_append] using hW) (List.mem_of_getElem? (i := 4) rfl) (ci := 2) rfl
    · exact h_31.elim
