/-! what is told stays in order -/
theorem prtF_ok {f : Nat → Int32} {n mp e w : Nat} {wds : List (List Nat)} {t : Tx} (h : prtF f n wds t mp e = .inr w) : pix t.1 (tkW f n e) = none ∧ w < wds.length ∧ t.1.length ≠ mp := by
  unfold prtF at h
  cases h1 : pix t.1 (tkW f n e) with
  | some k => rw [h1] at h; cases h
  | none =>
    rw [h1] at h
    dsimp only at h
    by_cases h2 : tkK f n (tkE f n (tkE f n e)) ≠ 2
    · rw [if_pos h2] at h; cases h
    · rw [if_neg h2] at h
      cases h3 : pix wds (tkW f n (tkE f n (tkE f n e))) with
      | none => rw [h3] at h; cases h
      | some v =>
        rw [h3] at h
        dsimp only at h
        by_cases h4 : t.1.length = mp
        · rw [if_pos h4] at h; cases h
        · rw [if_neg h4] at h; cases h; exact ⟨rfl, (pix_some h3).1, h4⟩
theorem lnkF_ok {f : Nat → Int32} {n ml e : Nat} {wds : List (List Nat)} {t : Tx} {l : Nat × Nat × Nat} (h : lnkF f n wds t ml e = .inr l) : (l.1 < t.1.length ∧ l.2.1 < wds.length ∧ l.2.2 < t.1.length) ∧ t.2.2.length ≠ ml := by
  unfold lnkF at h
  by_cases h1 : tkK f n (tkE f n e) ≠ 2
  · rw [if_pos h1] at h; cases h
  · rw [if_neg h1] at h
    cases h2 : pix t.1 (tkW f n e) with
    | none => rw [h2] at h; cases h
    | some a =>
      rw [h2] at h
      dsimp only at h
      cases h3 : pix wds (tkW f n (tkE f n e)) with
      | none => rw [h3] at h; cases h
      | some w =>
        rw [h3] at h
        dsimp only at h
        by_cases h4 : tkK f n (tkE f n (tkE f n e)) ≠ 2
        · rw [if_pos h4] at h; cases h
        · rw [if_neg h4] at h
          cases h5 : pix t.1 (tkW f n (tkE f n (tkE f n e))) with
          | none => rw [h5] at h; cases h
          | some b =>
            rw [h5] at h
            dsimp only at h
            by_cases h6 : (a, w, b) ∈ t.2.2
            · rw [if_pos h6] at h; cases h
            · rw [if_neg h6] at h
              by_cases h7 : t.2.2.length = ml
              · rw [if_pos h7] at h; cases h
              · rw [if_neg h7] at h; cases h; exact ⟨⟨(pix_some h2).1, (pix_some h3).1, (pix_some h5).1⟩, h7⟩
theorem rdL_ok {f : Nat → Int32} {n mp ml : Nat} {wds : List (List Nat)} : ∀ (g e : Nat) (t t' : Tx), TxOk wds.length mp ml t → rdL f n wds mp ml g e t = .inr t' → TxOk wds.length mp ml t'
  | 0, e, t, t', hok, h => by cases h; exact hok
  | g + 1, e, t, t', hok, h => by
    unfold rdL at h
    by_cases h1 : tkK f n e ≠ 2
    · rw [if_pos h1] at h; cases h
    · rw [if_neg h1] at h
      by_cases h2 : tkK f n (tkE f n e) = 58
      · rw [if_pos h2] at h
        cases h3 : prtF f n wds t mp e with
        | inl q => rw [h3] at h; cases h
        | inr w =>
          rw [h3] at h
          dsimp only at h
          obtain ⟨q1, q2, q3⟩ := prtF_ok h3
          have hok2 := hok.part q1 q2 q3
          by_cases h4 : tkK f n (tkE f n (tkE f n (tkE f n e))) = 59
          · rw [if_pos h4] at h; exact rdL_ok g _ _ _ hok2 h
          · rw [if_neg h4] at h
            by_cases h5 : tkK f n (tkE f n (tkE f n (tkE f n e))) = 0
            · rw [if_pos h5] at h; cases h; exact hok2
            · rw [if_neg h5] at h; cases h
      · rw [if_neg h2] at h
        cases h3 : lnkF f n wds t ml e with
        | inl q => rw [h3] at h; cases h
        | inr w =>
          rw [h3] at h
          dsimp only at h
          obtain ⟨q1, q2⟩ := lnkF_ok h3
          have hok2 := hok.link q1 q2
          by_cases h4 : tkK f n (tkE f n (tkE f n (tkE f n e))) = 59
          · rw [if_pos h4] at h; exact rdL_ok g _ _ _ hok2 h
          · rw [if_neg h4] at h
            by_cases h5 : tkK f n (tkE f n (tkE f n (tkE f n e))) = 0
            · rw [if_pos h5] at h; cases h; exact hok2
            · rw [if_neg h5] at h; cases h
theorem nT_ok {n mp ml : Nat} : TxOk n mp ml nT := ⟨List.nodup_nil, rfl, Nat.zero_le _, Nat.zero_le _, (fun w h => nomatch h), (fun w h => nomatch h)⟩
theorem TxOk.up {n n' mp ml : Nat} {t : Tx} (h : TxOk n mp ml t) (hn : n ≤ n') : TxOk n' mp ml t :=
  ⟨h.1, h.2.1, h.2.2.1, h.2.2.2.1, fun w hw => Nat.lt_of_lt_of_le (h.2.2.2.2.1 w hw) hn, fun l hl => ⟨(h.2.2.2.2.2 l hl).1, Nat.lt_of_lt_of_le (h.2.2.2.2.2 l hl).2.1 hn, (h.2.2.2.2.2 l hl).2.2⟩⟩
theorem SOk.mono {n m : Nat} {S : AS} (h : SOk n S) (hm : n ≤ m) : SOk m S := ⟨h.1, Nat.le_trans h.2.1 hm, h.2.2⟩
theorem SOk.r {n : Nat} {S : AS} {tr wh : Int32} (h : SOk n S) (hw : tr ≠ 4 → wh = -1) : SOk n (stR S tr wh) := ⟨h.1, h.2.1, h.2.2.1, h.2.2.2.1, h.2.2.2.2.1, h.2.2.2.2.2.1, h.2.2.2.2.2.2.1, hw⟩
theorem SOk.f {n : Nat} {S : AS} {fa : Int32} (h : SOk n S) : SOk n (stF S fa) := h
theorem SOk.l {n : Nat} {S : AS} {fa : Int32} (h : SOk n S) : SOk n (stL S fa) := h
theorem SOk.n {n k : Nat} {S : AS} {f : Nat → Int32} (h : SOk n S) (hk : k ≤ 300) : SOk n (stN S f k) := ⟨h.1, h.2.1, hk, h.2.2.2⟩
theorem SOk.rf {n : Nat} {S : AS} {w : Int32} (h : SOk n S) : SOk n (rfS S w).1 := h.r (fun _ => rfl)
theorem SOk.rn {n : Nat} {S : AS} {w : Int32} (h : SOk n S) : SOk n (rfN S w).1 := h.r (fun _ => rfl)
theorem SOk.cut {n : Nat} {S : AS} (h : SOk n S) : SOk n (cutS S) := SOk.f (h.n (Nat.zero_le _))
theorem SOk.wr {n : Nat} {S : AS} {e : Nat × Nat} (h : SOk n S) : SOk n (wrongS S e) := SOk.f (h.r (fun z => absurd rfl z))
theorem SOk.c {n : Nat} {S : AS} {c : Co} {a : Ac} (h : SOk n S) (hi : InvC c) (hv : vld a c) (hu : undoC a c = S.1) : SOk (n + 1) (stC S c a) :=
  ⟨⟨hi, hv, by show Chn S.2.1 (undoC a c); rw [hu]; exact h.1⟩, Nat.succ_le_succ h.2.1, h.2.2⟩
theorem vld_k {k i : Nat} {c : Co} {d : Nat} {t : Tx} (h9 : k < 9) (h0 : k = 0 → cW c ≠ []) (h1 : k = 1 → cN c = i + d ∧ d ≤ 5000) (h2 : k = 2 → cP c ≠ []) (h3 : k = 3 → cT c ≠ []) (h4 : k = 4 → cF c ≠ []) (h5 : k = 5 → cC c ≠ []) (h6 : 6 ≤ k → i < (cC c).length) : vld (k, i, d, t) c := ⟨h9, h0, h1, h2, h3, h4, h5, h6⟩
theorem snoc_ne {α : Type} {l : List α} {x : α} : l ++ [x] ≠ [] := by simp
theorem mem_snoc {α : Type} {l : List α} {x y : α} (h : y ∈ l ++ [x]) : y ∈ l ∨ y = x := by simpa using h
theorem modC_mod {l : List Cl} {k : Nat} {f g : Cl → Cl} (h : k < l.length) (hg : g (f (l.getD k dC)) = l.getD k dC) : modC (modC l k f) k g = l := by
  unfold modC
  rw [getD_set h, if_pos rfl, hg]
  apply List.ext_getElem
  · rw [List.length_set, List.length_set]
  · intro i h1 h2
    rw [List.getElem_set, List.getElem_set]
    by_cases e : k = i
    · rw [if_pos e]; subst e; rw [List.getD_eq_getElem?_getD, List.getElem?_eq_getElem h]; rfl
    · rw [if_neg e, if_neg e]
section KEEP
variable {n : Nat} {S : AS} {a0 a1 a2 a3 a4 : Int32}
theorem feed_ok (h : SOk n S) : SOk (n + 1) (feedS S a0 a1 a2 a3 a4).1 := by
  unfold feedS
  by_cases c : S.2.2.2.1 + 20 ≤ 300
  · rw [if_pos c]; exact (h.n (f := wr S.2.2.1 S.2.2.2.1 (feedL a0 a1 a2 a3 a4)) c).mono (by omega)
  · rw [if_neg c]; exact h.mono (by omega)
theorem word_ok (h : SOk n S) : SOk (n + 1) (wordS S a0 a1).1 := by
  unfold wordS
  cases h1 : ixo a0 (cW S.1).length with
  | none => exact h.rf.mono (by omega)
  | some o =>
    dsimp only
    cases h2 : ixn a1 S.2.2.2.1 with
    | none => exact h.rf.mono (by omega)
    | some k =>
      dsimp only
      have hi := h.inv
      have hoo := ixo_enc h1 (by have := hi.1.1; omega)
      by_cases h3 : (tkK S.2.2.1 k 0 = 2 ∧ tkK S.2.2.1 k (tkE S.2.2.1 k 0) = 0) ∧ pix (cW S.1) (tkW S.2.2.1 k 0) = none
      · rw [if_pos h3]
        by_cases h4 : (cW S.1).length = 60
        · rw [if_pos h4]; exact (h.n (Nat.zero_le _)).rf.mono (by omega)
        · rw [if_neg h4]
          refine ((h.n (Nat.zero_le _)).c ?_ ?_ ?_).r (fun _ => rfl)
          · have hl : (cW S.1 ++ [tkW S.2.2.1 k 0]).length = (cW S.1).length + 1 := by rw [List.length_append]; rfl
            have hle : (cW S.1).length ≤ (cW S.1 ++ [tkW S.2.2.1 k 0]).length := by omega
            refine ⟨⟨?_, ?_, ?_, ?_, ?_⟩, ⟨hi.2.1.1, fun p hp => ⟨(hi.2.1.2 p hp).1.up hle, (hi.2.1.2 p hp).2⟩⟩, ⟨hi.2.2.1.1, fun j hj => ⟨(hi.2.2.1.2 j hj).1.up hle, (hi.2.2.1.2 j hj).2⟩⟩, ⟨hi.2.2.2.1.1, fun p hp => ⟨(hi.2.2.2.1.2 p hp).1.up hle, (hi.2.2.2.1.2 p hp).2⟩⟩, ⟨hi.2.2.2.2.1.1, fun j hj => ⟨(hi.2.2.2.2.1.2 j hj).1.up hle, (hi.2.2.2.2.1.2 j hj).2⟩⟩, hi.2.2.2.2.2⟩
            · show (cW S.1 ++ [tkW S.2.2.1 k 0]).length ≤ 60
              have := hi.1.1; omega
            · show (cV S.1 ++ [o]).length = (cW S.1 ++ [tkW S.2.2.1 k 0]).length
              rw [List.length_append, List.length_append, hi.1.2.1]; rfl
            · show (cW S.1 ++ [tkW S.2.2.1 k 0]).Nodup
              rw [List.nodup_append]
              refine ⟨hi.1.2.2.1, by simp, fun u hu v hv e => ?_⟩
              have hv : v = tkW S.2.2.1 k 0 := by simpa using hv
              obtain ⟨i, hil, hie⟩ := List.getElem_of_mem hu
              have := pix_of (w := tkW S.2.2.1 k 0) hi.1.2.2.1 hil (by rw [List.getD_eq_getElem?_getD, List.getElem?_eq_getElem hil, hie, e, hv]; rfl)
              rw [h3.2] at this; cases this
            · intro u hu
              rcases mem_snoc hu with z | z
              · exact hi.1.2.2.2.1 u z
              · rw [z]; exact tkW_wf h3.1.1
            · intro i hil j hj
              rcases getD_snoc (d := none) hil with ⟨q1, q2⟩ | ⟨q1, q2⟩
              · exact hi.1.2.2.2.2 i q1 j (by rw [← q2]; exact hj)
              · rw [q1, hi.1.2.1]; exact hoo.2 j (by rw [← q2]; exact hj)
          · exact vld_k (by omega) (fun _ => snoc_ne) (fun z => nomatch z) (fun z => nomatch z) (fun z => nomatch z) (fun z => nomatch z) (fun z => nomatch z) (fun z => by omega)
          · show (((cW S.1 ++ [tkW S.2.2.1 k 0]).dropLast, (cV S.1 ++ [o]).dropLast, S.1.2.2) : Co) = S.1
            rw [List.dropLast_concat, List.dropLast_concat]
      · rw [if_neg h3]; exact (h.n (Nat.zero_le _)).rf.mono (by omega)
theorem clam {a : Int32} (h : (1 : Int32) ≤ a ∧ a ≤ 5000) : 1 ≤ a.toNatClampNeg ∧ a.toNatClampNeg ≤ 5000 ∧ a = nI a.toNatClampNeg := by
  have h1 := Int32.le_iff_toInt_le.mp h.1
  have h2 := Int32.le_iff_toInt_le.mp h.2
  rw [show (1 : Int32).toInt = 1 by decide] at h1
  rw [show (5000 : Int32).toInt = 5000 by decide] at h2
  have hb : a.toNatClampNeg = a.toInt.toNat := rfl
  refine ⟨by omega, by omega, ?_⟩
  apply Int32.toInt_inj.mp
  rw [nI_toInt (by omega), hb]
  omega
theorem pass_ok (h : SOk n S) : SOk (n + 1) (passS S a0).1 := by
  unfold passS
  by_cases c : (1 ≤ a0 ∧ a0 ≤ 5000) ∧ cN S.1 + a0.toNatClampNeg ≤ 20000
  · rw [if_pos c]
    have hi := h.inv
    refine (h.c ?_ ?_ rfl).r (fun _ => rfl)
    · exact ⟨hi.1, hi.2.1, hi.2.2.1, hi.2.2.2.1, ⟨hi.2.2.2.2.1.1, fun k hk => let q := hi.2.2.2.2.1.2 k hk; ⟨q.1, q.2.1, q.2.2.1, Nat.le_trans q.2.2.2.1 (Nat.le_add_right _ _), q.2.2.2.2⟩⟩, c.2⟩
    · exact vld_k (by omega) (fun z => nomatch z) (fun _ => ⟨rfl, (clam c.1).2.1⟩) (fun z => nomatch z) (fun z => nomatch z) (fun z => nomatch z) (fun z => nomatch z) (fun z => by omega)
  · rw [if_neg c]; exact h.rf.mono (by omega)
theorem paper_ok (h : SOk n S) : SOk (n + 1) (paperS S a0 a1).1 := by
  unfold paperS
  cases h1 : ixn a0 (cN S.1) with
  | none => exact h.rf.mono (by omega)
  | some d =>
    cases h2 : ixn a1 S.2.2.2.1 with
    | none => exact h.rf.mono (by omega)
    | some k =>
      dsimp only
      have hi := h.inv
      cases h3 : readS S k 8 10 nT with
      | inl e => exact h.cut.wr.mono (by omega)
      | inr t =>
        dsimp only
        have ht := rdL_ok _ _ _ _ nT_ok h3
        by_cases h4 : (cP S.1).length = 20
        · rw [if_pos h4]; exact h.cut.rf.mono (by omega)
        · rw [if_neg h4]
          refine (h.cut.c ?_ ?_ ?_).r (fun _ => rfl)
          · have hd := (ixn_some h1 (by have := hi.2.2.2.2.2; omega)).1
            refine ⟨hi.1, ⟨?_, fun p hp => ?_⟩, hi.2.2⟩
            · show (cP S.1 ++ [_]).length ≤ 20
              rw [List.length_append]
              have := hi.2.1.1
              have : ([(t, d, cN S.1)] : List Pp).length = 1 := rfl
              omega
            · rcases mem_snoc hp with z | z
              · exact hi.2.1.2 p z
              · rw [z]; exact ⟨ht, by have := hi.2.2.2.2.2; show d ≤ 20000; omega, hi.2.2.2.2.2⟩
          · exact vld_k (by omega) (fun z => nomatch z) (fun z => nomatch z) (fun _ => snoc_ne) (fun z => nomatch z) (fun z => nomatch z) (fun z => nomatch z) (fun z => by omega)
          · show ((cW S.1, cV S.1, (cP S.1 ++ [(t, d, cN S.1)]).dropLast, cF S.1, cT S.1, cC S.1, cN S.1) : Co) = S.1
            rw [List.dropLast_concat]
theorem thing_ok (h : SOk n S) : SOk (n + 1) (thingS S a0).1 := by
  unfold thingS
  cases h2 : ixn a0 S.2.2.2.1 with
  | none => exact h.rf.mono (by omega)
  | some k =>
    dsimp only
    have hi := h.inv
    cases h3 : readS S k 8 10 nT with
    | inl e => exact h.cut.wr.mono (by omega)
    | inr t =>
      dsimp only
      have ht := rdL_ok _ _ _ _ nT_ok h3
      by_cases h4 : (cT S.1).length = 12
      · rw [if_pos h4]; exact h.cut.rf.mono (by omega)
      · rw [if_neg h4]
        refine (h.cut.c ?_ ?_ ?_).r (fun _ => rfl)
        · refine ⟨hi.1, hi.2.1, hi.2.2.1, ⟨?_, fun p hp => ?_⟩, hi.2.2.2.2⟩
          · show (cT S.1 ++ [_]).length ≤ 12
            rw [List.length_append]
            have := hi.2.2.2.1.1
            have : ([(t, cN S.1)] : List (Tx × Nat)).length = 1 := rfl
            omega
          · rcases mem_snoc hp with z | z
            · exact hi.2.2.2.1.2 p z
            · rw [z]; exact ⟨ht, hi.2.2.2.2.2⟩
        · exact vld_k (by omega) (fun z => nomatch z) (fun z => nomatch z) (fun z => nomatch z) (fun _ => snoc_ne) (fun z => nomatch z) (fun z => nomatch z) (fun z => by omega)
        · show ((cW S.1, cV S.1, cP S.1, cF S.1, (cT S.1 ++ [(t, cN S.1)]).dropLast, cC S.1, cN S.1) : Co) = S.1
          rw [List.dropLast_concat]
theorem file_ok (h : SOk n S) : SOk (n + 1) (fileS S a0 a1).1 := by
  unfold fileS
  cases h1 : ixo a0 (cF S.1).length with
  | none => exact h.rf.mono (by omega)
  | some o =>
    dsimp only
    cases h2 : ixn a1 S.2.2.2.1 with
    | none => exact h.rf.mono (by omega)
    | some k =>
      dsimp only
      have hi := h.inv
      have hoo := ixo_enc h1 (by have := hi.2.2.1.1; omega)
      cases h3 : readS S k 8 10 nT with
      | inl e => exact h.cut.wr.mono (by omega)
      | inr t =>
        dsimp only
        have ht := rdL_ok _ _ _ _ nT_ok h3
        by_cases h4 : (cF S.1).length = 8
        · rw [if_pos h4]; exact h.cut.rf.mono (by omega)
        · rw [if_neg h4]
          refine (h.cut.c ?_ ?_ ?_).r (fun _ => rfl)
          · have hl : (cF S.1 ++ [(t, cN S.1, o)]).length = (cF S.1).length + 1 := by rw [List.length_append]; rfl
            refine ⟨hi.1, hi.2.1, ⟨?_, fun j hj => ?_⟩, hi.2.2.2.1, ⟨hi.2.2.2.2.1.1, fun j hj => let q := hi.2.2.2.2.1.2 j hj; ⟨q.1, ?_, q.2.2⟩⟩, hi.2.2.2.2.2⟩
            · show (cF S.1 ++ [(t, cN S.1, o)]).length ≤ 8
              have := hi.2.2.1.1; omega
            · rcases getD_snoc (d := dF) hj with ⟨q1, q2⟩ | ⟨q1, q2⟩
              · show TxOk (cW S.1).length 8 10 ((cF S.1 ++ [(t, cN S.1, o)]).getD j dF).1 ∧ ((cF S.1 ++ [(t, cN S.1, o)]).getD j dF).2.1 ≤ 20000 ∧ ∀ i, ((cF S.1 ++ [(t, cN S.1, o)]).getD j dF).2.2 = some i → i < j
                rw [q2]; exact hi.2.2.1.2 j q1
              · show TxOk (cW S.1).length 8 10 ((cF S.1 ++ [(t, cN S.1, o)]).getD j dF).1 ∧ ((cF S.1 ++ [(t, cN S.1, o)]).getD j dF).2.1 ≤ 20000 ∧ ∀ i, ((cF S.1 ++ [(t, cN S.1, o)]).getD j dF).2.2 = some i → i < j
                rw [q2, q1]; exact ⟨ht, hi.2.2.2.2.2, hoo.2⟩
            · show ((cC S.1).getD j dC).2.1 < (cF S.1 ++ [(t, cN S.1, o)]).length
              have := q.2.1; omega
          · exact vld_k (by omega) (fun z => nomatch z) (fun z => nomatch z) (fun z => nomatch z) (fun z => nomatch z) (fun _ => snoc_ne) (fun z => nomatch z) (fun z => by omega)
          · show ((cW S.1, cV S.1, cP S.1, (cF S.1 ++ [(t, cN S.1, o)]).dropLast, cT S.1, cC S.1, cN S.1) : Co) = S.1
            rw [List.dropLast_concat]
theorem base_ok (h : InvC S.1) {o : Option Nat} (ho : ∀ k, o = some k → k < (cC S.1).length) : TxOk (cW S.1).length 6 8 (baseT S.1 o) := by
  cases o with
  | none => exact nT_ok
  | some k => exact (h.2.2.2.2.1.2 k (ho k rfl)).1
theorem claim_ok (h : SOk n S) : SOk (n + 1) (claimS S a0 a1 a2).1 := by
  unfold claimS
  cases h1 : ix a0 (cF S.1).length with
  | none => exact h.rf.mono (by omega)
  | some f =>
    cases h1b : ixo a1 (cC S.1).length with
    | none => exact h.rf.mono (by omega)
    | some o =>
      dsimp only
      by_cases h5 : offB S.1 o f = true
      · rw [if_pos h5]; exact h.rf.mono (by omega)
      · rw [if_neg h5]
        cases h2 : ixn a2 S.2.2.2.1 with
        | none => exact h.rf.mono (by omega)
        | some k =>
          dsimp only
          have hi := h.inv
          have hf := (ix_some h1 (by have := hi.2.2.1.1; omega)).1
          have hoo := ixo_enc h1b (by have := hi.2.2.2.2.1.1; omega)
          cases h3 : readS S k 6 8 (baseT S.1 o) with
          | inl e => exact h.cut.wr.mono (by omega)
          | inr t =>
            dsimp only
            have ht := rdL_ok _ _ _ _ (base_ok hi hoo.2) h3
            by_cases h6 : disA S.1 ((cF S.1).getD f dF).1 t = false
            · rw [if_pos h6]; exact h.cut.rf.mono (by omega)
            · rw [if_neg h6]
              by_cases h4 : (cC S.1).length = 40
              · rw [if_pos h4]; exact h.cut.rf.mono (by omega)
              · rw [if_neg h4]
                refine (h.cut.c ?_ ?_ ?_).r (fun _ => rfl)
                · have hl : (cC S.1 ++ [(t, f, o, cN S.1, none, none)]).length = (cC S.1).length + 1 := by rw [List.length_append]; rfl
                  refine ⟨hi.1, hi.2.1, hi.2.2.1, hi.2.2.2.1, ⟨?_, fun j hj => ?_⟩, hi.2.2.2.2.2⟩
                  · show (cC S.1 ++ [(t, f, o, cN S.1, none, none)]).length ≤ 40
                    have := hi.2.2.2.2.1.1; omega
                  · show TxOk (cW S.1).length 6 8 ((cC S.1 ++ [(t, f, o, cN S.1, none, none)]).getD j dC).1 ∧ ((cC S.1 ++ [(t, f, o, cN S.1, none, none)]).getD j dC).2.1 < (cF S.1).length ∧ (∀ i, ((cC S.1 ++ [(t, f, o, cN S.1, none, none)]).getD j dC).2.2.1 = some i → i < j) ∧ ((cC S.1 ++ [(t, f, o, cN S.1, none, none)]).getD j dC).2.2.2.1 ≤ cN S.1 ∧ (∀ g, ((cC S.1 ++ [(t, f, o, cN S.1, none, none)]).getD j dC).2.2.2.2.1 = some g → ((cC S.1 ++ [(t, f, o, cN S.1, none, none)]).getD j dC).2.2.2.1 ≤ g ∧ g ≤ 20000) ∧ (∀ g, ((cC S.1 ++ [(t, f, o, cN S.1, none, none)]).getD j dC).2.2.2.2.2 = some g → g ≤ 20000)
                    rcases getD_snoc (d := dC) hj with ⟨q1, q2⟩ | ⟨q1, q2⟩
                    · rw [q2]; exact hi.2.2.2.2.1.2 j q1
                    · rw [q2, q1]; exact ⟨ht, hf, hoo.2, Nat.le_refl _, (fun g z => nomatch z), (fun g z => nomatch z)⟩
                · exact vld_k (by omega) (fun z => nomatch z) (fun z => nomatch z) (fun z => nomatch z) (fun z => nomatch z) (fun z => nomatch z) (fun _ => snoc_ne) (fun z => by omega)
                · show ((cW S.1, cV S.1, cP S.1, cF S.1, cT S.1, (cC S.1 ++ [(t, f, o, cN S.1, none, none)]).dropLast, cN S.1) : Co) = S.1
                  rw [List.dropLast_concat]
/-- one claim changed -/
theorem inv_mod {c : Co} {k : Nat} {f : Cl → Cl} (hi : InvC c) (hk : k < (cC c).length) (h1 : TxOk (cW c).length 6 8 (f ((cC c).getD k dC)).1) (h2 : (f ((cC c).getD k dC)).2.1 = ((cC c).getD k dC).2.1) (h3 : (f ((cC c).getD k dC)).2.2.1 = ((cC c).getD k dC).2.2.1) (h4 : (f ((cC c).getD k dC)).2.2.2.1 = ((cC c).getD k dC).2.2.2.1) (h5 : ∀ g, (f ((cC c).getD k dC)).2.2.2.2.1 = some g → ((cC c).getD k dC).2.2.2.1 ≤ g ∧ g ≤ 20000) (h6 : ∀ g, (f ((cC c).getD k dC)).2.2.2.2.2 = some g → g ≤ 20000) : InvC (cW c, cV c, cP c, cF c, cT c, modC (cC c) k f, cN c) := by
  refine ⟨hi.1, hi.2.1, hi.2.2.1, hi.2.2.2.1, ⟨by show (modC (cC c) k f).length ≤ 40; rw [modC_len]; exact hi.2.2.2.2.1.1, fun j hj => ?_⟩, hi.2.2.2.2.2⟩
  have hj : j < (modC (cC c) k f).length := hj
  rw [modC_len] at hj
  show TxOk (cW c).length 6 8 ((modC (cC c) k f).getD j dC).1 ∧ ((modC (cC c) k f).getD j dC).2.1 < (cF c).length ∧ (∀ i, ((modC (cC c) k f).getD j dC).2.2.1 = some i → i < j) ∧ ((modC (cC c) k f).getD j dC).2.2.2.1 ≤ cN c ∧ (∀ g, ((modC (cC c) k f).getD j dC).2.2.2.2.1 = some g → ((modC (cC c) k f).getD j dC).2.2.2.1 ≤ g ∧ g ≤ 20000) ∧ (∀ g, ((modC (cC c) k f).getD j dC).2.2.2.2.2 = some g → g ≤ 20000)
  rw [modC_get hk]
  by_cases e : j = k
  · rw [if_pos e]
    have q := hi.2.2.2.2.1.2 k hk
    rw [h2, h3, h4, e]
    exact ⟨h1, q.2.1, q.2.2.1, q.2.2.2.1, h5, h6⟩
  · rw [if_neg e]; exact hi.2.2.2.2.1.2 j hj
theorem amend_ok (h : SOk n S) : SOk (n + 1) (amendS S a0 a1).1 := by
  unfold amendS
  cases h1 : ix a0 (cC S.1).length with
  | none => exact h.rn.mono (by omega)
  | some k =>
    dsimp only
    cases h2 : ixn a1 S.2.2.2.1 with
    | none => exact h.rn.mono (by omega)
    | some m =>
      dsimp only
      have hi := h.inv
      have hk := (ix_some h1 (by have := hi.2.2.2.2.1.1; omega)).1
      by_cases h3 : ((cC S.1).getD k dC).2.2.2.2.1 ≠ none
      · rw [if_pos h3]; exact h.rn.mono (by omega)
      · rw [if_neg h3]
        by_cases h4 : stoodB S.1 k = true
        · rw [if_pos h4]; exact h.rn.mono (by omega)
        · rw [if_neg h4]
          have q := hi.2.2.2.2.1.2 k hk
          cases h5 : readS S m 6 8 (baseT S.1 ((cC S.1).getD k dC).2.2.1) with
          | inl e => exact h.cut.wr.mono (by omega)
          | inr t =>
            dsimp only
            have ht := rdL_ok _ _ _ _ (base_ok hi (fun j hj => Nat.lt_trans (q.2.2.1 j hj) hk)) h5
            by_cases h6 : disA S.1 ((cF S.1).getD ((cC S.1).getD k dC).2.1 dF).1 t = false
            · rw [if_pos h6]; exact h.cut.rn.mono (by omega)
            · rw [if_neg h6]
              by_cases h7 : disA S.1 t ((cC S.1).getD k dC).1 = false
              · rw [if_pos h7]; exact h.cut.rn.mono (by omega)
              · rw [if_neg h7]
                refine (h.cut.c ?_ ?_ ?_).r (fun _ => rfl)
                · exact inv_mod hi hk ht rfl rfl rfl q.2.2.2.2.1 q.2.2.2.2.2
                · exact vld_k (by omega) (fun z => nomatch z) (fun z => nomatch z) (fun z => nomatch z) (fun z => nomatch z) (fun z => nomatch z) (fun z => nomatch z) (fun _ => by rw [modC_len]; exact hk)
                · show ((cW S.1, cV S.1, cP S.1, cF S.1, cT S.1, modC (modC (cC S.1) k (sTx t)) k (sTx ((cC S.1).getD k dC).1), cN S.1) : Co) = S.1
                  rw [modC_mod hk rfl]
theorem grant_ok (h : SOk n S) : SOk (n + 1) (grantS S a0).1 := by
  unfold grantS
  cases h1 : ix a0 (cC S.1).length with
  | none => exact h.rn.mono (by omega)
  | some k =>
    dsimp only
    have hi := h.inv
    have hk := (ix_some h1 (by have := hi.2.2.2.2.1.1; omega)).1
    by_cases h3 : ((cC S.1).getD k dC).2.2.2.2.1 ≠ none
    · rw [if_pos h3]; exact h.rn.mono (by omega)
    · rw [if_neg h3]
      have q := hi.2.2.2.2.1.2 k hk
      have h3 : ((cC S.1).getD k dC).2.2.2.2.1 = none := Decidable.not_not.mp h3
      refine (h.c ?_ ?_ ?_).r (fun _ => rfl)
      · exact inv_mod hi hk q.1 rfl rfl rfl (fun g z => by cases z; exact ⟨q.2.2.2.1, hi.2.2.2.2.2⟩) q.2.2.2.2.2
      · exact vld_k (by omega) (fun z => nomatch z) (fun z => nomatch z) (fun z => nomatch z) (fun z => nomatch z) (fun z => nomatch z) (fun z => nomatch z) (fun _ => by rw [modC_len]; exact hk)
      · show ((cW S.1, cV S.1, cP S.1, cF S.1, cT S.1, modC (modC (cC S.1) k (sGr (some (cN S.1)))) k (sGr none), cN S.1) : Co) = S.1
        rw [modC_mod hk (by
          generalize (cC S.1).getD k dC = z at h3
          obtain ⟨z1, z2, z3, z4, z5, z6⟩ := z
          dsimp only at h3
          rw [h3]; rfl)]
theorem drop_ok (h : SOk n S) : SOk (n + 1) (dropS S a0).1 := by
  unfold dropS
  cases h1 : ix a0 (cC S.1).length with
  | none => exact h.rn.mono (by omega)
  | some k =>
    dsimp only
    have hi := h.inv
    have hk := (ix_some h1 (by have := hi.2.2.2.2.1.1; omega)).1
    by_cases h3 : ((cC S.1).getD k dC).2.2.2.2.1 = none ∨ ((cC S.1).getD k dC).2.2.2.2.2 ≠ none
    · rw [if_pos h3]; exact h.rn.mono (by omega)
    · rw [if_neg h3]
      have q := hi.2.2.2.2.1.2 k hk
      have h3 : ((cC S.1).getD k dC).2.2.2.2.2 = none := Decidable.not_not.mp (fun z => h3 (Or.inr z))
      refine (h.c ?_ ?_ ?_).r (fun _ => rfl)
      · exact inv_mod hi hk q.1 rfl rfl rfl q.2.2.2.2.1 (fun g z => by cases z; exact hi.2.2.2.2.2)
      · exact vld_k (by omega) (fun z => nomatch z) (fun z => nomatch z) (fun z => nomatch z) (fun z => nomatch z) (fun z => nomatch z) (fun z => nomatch z) (fun _ => by rw [modC_len]; exact hk)
      · show ((cW S.1, cV S.1, cP S.1, cF S.1, cT S.1, modC (modC (cC S.1) k (sDr (some (cN S.1)))) k (sDr none), cN S.1) : Co) = S.1
        rw [modC_mod hk (by
          generalize (cC S.1).getD k dC = z at h3
          obtain ⟨z1, z2, z3, z4, z5, z6⟩ := z
          dsimp only at h3
          rw [h3]; rfl)]
theorem undo_ok (h : SOk n S) : SOk (n + 1) (undoS S).1 := by
  unfold undoS
  cases e : S.2.1 with
  | nil => exact h.mono (by omega)
  | cons a as =>
    have h1 := h.1
    have h2 := h.2.1
    rw [e] at h1 h2
    exact ⟨h1.2.2, by have : as.length + 1 ≤ n := h2; show as.length ≤ n + 1; omega, h.2.2⟩
end KEEP
