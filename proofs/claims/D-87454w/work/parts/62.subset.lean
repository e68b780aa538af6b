/-! some parts of a text found in another one = the text of those parts found there -/
def Sol (wd : Nat → Int32) (a b : Tx) (wn n : Nat) (f : Nat → Nat) : Prop :=
  (∀ i, i < n → wn.testBit i = true → f i < b.1.length ∧ underB wd (b.2.1.getD (f i) 0) (a.2.1.getD i 0) = true) ∧
  (∀ i j, i < n → j < n → wn.testBit i = true → wn.testBit j = true → f i = f j → i = j) ∧
  (∀ l ∈ a.2.2, l.1 < n → l.2.2 < n → wn.testBit l.1 = true → wn.testBit l.2.2 = true → hlB wd b (f l.1) l.2.1 (f l.2.2) = true)
def asg (wn : Nat) (f : Nat → Nat) (n : Nat) : List (Option Nat) := (List.range n).map (fun i => if wn.testBit i = true then some (f i) else none)
theorem asg_len {wn n : Nat} {f : Nat → Nat} : (asg wn f n).length = n := by unfold asg; simp
theorem asg_s {wn n : Nat} {f : Nat → Nat} : asg wn f (n + 1) = asg wn f n ++ [if wn.testBit n = true then some (f n) else none] := by
  unfold asg; rw [List.range_succ, List.map_append]; rfl
theorem asg_get {wn n i : Nat} {f : Nat → Nat} (h : i < n) : (asg wn f n).getD i none = if wn.testBit i = true then some (f i) else none := by
  unfold asg
  rw [List.getD_eq_getElem?_getD, List.getElem?_map, List.getElem?_range h]; rfl
theorem asg_cg {wn n : Nat} {f g : Nat → Nat} (h : ∀ i, i < n → f i = g i) : asg wn f n = asg wn g n := by
  unfold asg
  apply List.map_congr_left
  intro i hi
  rw [h i (List.mem_range.mp hi)]
theorem asg_mem {wn n p : Nat} {f : Nat → Nat} : some p ∈ asg wn f n ↔ ∃ i, i < n ∧ wn.testBit i = true ∧ f i = p := by
  unfold asg
  rw [List.mem_map]
  constructor
  · rintro ⟨i, hi, e⟩
    by_cases hb : wn.testBit i = true
    · rw [if_pos hb] at e; cases e; exact ⟨i, List.mem_range.mp hi, hb, rfl⟩
    · rw [if_neg hb] at e; cases e
  · rintro ⟨i, hi, hb, e⟩
    exact ⟨i, List.mem_range.mpr hi, by rw [if_pos hb, e]⟩
/-- links of part k are there -/
theorem lkB_iff {wd : Nat → Int32} {a b : Tx} {wn k : Nat} {f : Nat → Nat} : lkB wd a b (asg wn f (k + 1)) k = true ↔ ∀ l ∈ a.2.2, (l.1 = k ∨ l.2.2 = k) → l.1 < k + 1 → l.2.2 < k + 1 → wn.testBit l.1 = true → wn.testBit l.2.2 = true → hlB wd b (f l.1) l.2.1 (f l.2.2) = true := by
  unfold lkB
  rw [List.all_eq_true]
  constructor
  · intro h l hl hk h1 h2 b1 b2
    have := h l hl
    unfold lkP at this
    rw [asg_get h1, asg_get h2, if_pos b1, if_pos b2] at this
    dsimp only at this
    rcases hk with e | e
    · simpa [e] using this
    · simpa [e] using this
  · intro h l hl
    unfold lkP
    by_cases h1 : l.1 < k + 1
    · by_cases h2 : l.2.2 < k + 1
      · by_cases hk : l.1 = k ∨ l.2.2 = k
        · rw [asg_get h1, asg_get h2]
          by_cases b1 : wn.testBit l.1 = true
          · by_cases b2 : wn.testBit l.2.2 = true
            · rw [if_pos b1, if_pos b2]
              dsimp only
              rw [h l hl hk h1 h2 b1 b2, Bool.or_true]
            · rw [if_neg b2]
              rw [if_pos b1]; simp
          · rw [if_neg b1]; simp
        · have e1 : ¬ l.1 = k := fun z => hk (Or.inl z)
          have e2 : ¬ l.2.2 = k := fun z => hk (Or.inr z)
          simp [e1, e2]
      · rw [getD_no (A := asg wn f (k + 1)) (i := l.2.2) (by rw [asg_len]; omega)]
        cases (asg wn f (k + 1)).getD l.1 none <;> simp
    · rw [getD_no (A := asg wn f (k + 1)) (i := l.1) (by rw [asg_len]; omega)]
      simp
theorem fm_pos {α β : Type} {l : List α} {g : α → List β} : 0 < (l.flatMap g).length ↔ ∃ x ∈ l, 0 < (g x).length := by
  induction l with
  | nil => simp
  | cons a l ih =>
    rw [List.flatMap_cons, List.length_append]
    constructor
    · intro h
      by_cases c : 0 < (g a).length
      · exact ⟨a, List.mem_cons_self, c⟩
      · obtain ⟨x, h1, h2⟩ := ih.mp (by omega)
        exact ⟨x, List.mem_cons_of_mem _ h1, h2⟩
    · rintro ⟨x, h1, h2⟩
      rcases List.mem_cons.mp h1 with e | e
      · rw [← e]; omega
      · have := ih.mpr ⟨x, e, h2⟩; omega
theorem sol_in {wd : Nat → Int32} {a b : Tx} {wn n : Nat} {f : Nat → Nat} (h : Sol wd a b wn n f) : ∀ m k, k + m = n → 0 < (solsF wd a b wn m (asg wn f k)).length
  | 0, k, _ => by simp [solsF]
  | m + 1, k, hk => by
    unfold solsF
    rw [asg_len]
    have ih := sol_in h m (k + 1) (by omega)
    rw [asg_s] at ih
    by_cases hb : wn.testBit k = true
    · rw [if_pos hb] at ih ⊢
      rw [fm_pos]
      obtain ⟨h1, h2⟩ := h.1 k (by omega) hb
      refine ⟨f k, List.mem_range.mpr h1, ?_⟩
      unfold solB
      rw [asg_len, if_neg]
      · exact ih
      · rintro (z | z | z)
        · obtain ⟨i, hi, hbi, e⟩ := asg_mem.mp z
          have := h.2.1 i k (by omega) (by omega) hbi hb e
          omega
        · rw [h2] at z; cases z
        · have e1 : asg wn f (k + 1) = asg wn f k ++ [some (f k)] := by rw [asg_s, if_pos hb]
          rw [← e1] at z
          have : lkB wd a b (asg wn f (k + 1)) k = true := lkB_iff.mpr (fun l hl _ g1 g2 b1 b2 => h.2.2 l hl (by omega) (by omega) b1 b2)
          rw [this] at z; cases z
    · rw [if_neg hb] at ih ⊢
      exact ih
theorem sol_out {wd : Nat → Int32} {a b : Tx} {wn : Nat} : ∀ (m k : Nat) (f : Nat → Nat), Sol wd a b wn k f → 0 < (solsF wd a b wn m (asg wn f k)).length → ∃ g, Sol wd a b wn (k + m) g
  | 0, k, f, h, _ => ⟨f, h⟩
  | m + 1, k, f, h, hp => by
    unfold solsF at hp
    rw [asg_len] at hp
    by_cases hb : wn.testBit k = true
    · rw [if_pos hb, fm_pos] at hp
      obtain ⟨p, hpr, hpp⟩ := hp
      have hpr := List.mem_range.mp hpr
      unfold solB at hpp
      rw [asg_len] at hpp
      by_cases hc : some p ∈ asg wn f k ∨ underB wd (b.2.1.getD p 0) (a.2.1.getD k 0) = false ∨ lkB wd a b (asg wn f k ++ [some p]) k = false
      · rw [if_pos hc] at hpp; simp at hpp
      · rw [if_neg hc] at hpp
        have e0 : asg wn (va_up f k p) k = asg wn f k := asg_cg (fun i hi => up_n (by omega))
        have e1 : asg wn (va_up f k p) (k + 1) = asg wn f k ++ [some p] := by rw [asg_s, if_pos hb, e0, up_s]
        have c1 : ¬ some p ∈ asg wn f k := fun z => hc (Or.inl z)
        have c2 : underB wd (b.2.1.getD p 0) (a.2.1.getD k 0) = true := by
          cases hu : underB wd (b.2.1.getD p 0) (a.2.1.getD k 0) with
          | true => rfl
          | false => exact absurd (Or.inr (Or.inl hu)) hc
        have c3 : lkB wd a b (asg wn (va_up f k p) (k + 1)) k = true := by
          rw [e1]
          cases hu : lkB wd a b (asg wn f k ++ [some p]) k with
          | true => rfl
          | false => exact absurd (Or.inr (Or.inr hu)) hc
        have c3 := lkB_iff.mp c3
        have hs : Sol wd a b wn (k + 1) (va_up f k p) := by
          refine ⟨fun i hi hbi => ?_, fun i j hi hj hbi hbj e => ?_, fun l hl h1 h2 b1 b2 => ?_⟩
          · by_cases z : i = k
            · rw [z, up_s]; exact ⟨hpr, c2⟩
            · rw [up_n z]; exact h.1 i (by omega) hbi
          · by_cases z : i = k
            · by_cases z2 : j = k
              · omega
              · rw [z, up_s, up_n z2] at e
                exact absurd (asg_mem.mpr ⟨j, by omega, hbj, e.symm⟩) c1
            · by_cases z2 : j = k
              · rw [z2, up_s, up_n z] at e
                exact absurd (asg_mem.mpr ⟨i, by omega, hbi, e⟩) c1
              · rw [up_n z, up_n z2] at e
                exact h.2.1 i j (by omega) (by omega) hbi hbj e
          · by_cases z : l.1 = k ∨ l.2.2 = k
            · exact c3 l hl z h1 h2 b1 b2
            · have z1 : ¬ l.1 = k := fun q => z (Or.inl q)
              have z2 : ¬ l.2.2 = k := fun q => z (Or.inr q)
              rw [up_n z1, up_n z2]
              exact h.2.2 l hl (by omega) (by omega) b1 b2
        rw [← e1] at hpp
        obtain ⟨g, hg⟩ := sol_out m (k + 1) _ hs hpp
        exact ⟨g, by rw [show k + (m + 1) = k + 1 + m by omega]; exact hg⟩
    · rw [if_neg hb] at hp
      have e1 : asg wn f (k + 1) = asg wn f k ++ [none] := by rw [asg_s, if_neg hb]
      rw [← e1] at hp
      have hs : Sol wd a b wn (k + 1) f := by
        have hne : ∀ i, i < k + 1 → wn.testBit i = true → i < k := by
          intro i hi hbi
          by_cases z : i = k
          · rw [z] at hbi; exact absurd hbi hb
          · omega
        exact ⟨fun i hi hbi => h.1 i (hne i hi hbi) hbi, fun i j hi hj hbi hbj e => h.2.1 i j (hne i hi hbi) (hne j hj hbj) hbi hbj e, fun l hl h1 h2 b1 b2 => h.2.2 l hl (hne _ h1 b1) (hne _ h2 b2) b1 b2⟩
      obtain ⟨g, hg⟩ := sol_out m (k + 1) f hs hp
      exact ⟨g, by rw [show k + (m + 1) = k + 1 + m by omega]; exact hg⟩
theorem disB_iff {wd : Nat → Int32} {a b : Tx} {wn : Nat} : disB wd a b wn = true ↔ ∃ f, Sol wd a b wn a.1.length f := by
  unfold disB
  rw [decide_eq_true_iff]
  constructor
  · intro h
    have := sol_out (wd := wd) (a := a) (b := b) (wn := wn) a.1.length 0 (fun _ => 0) ⟨fun i hi => absurd hi (Nat.not_lt_zero _), fun i j hi => absurd hi (Nat.not_lt_zero _), fun l _ hi => absurd hi (Nat.not_lt_zero _)⟩ h
    rw [Nat.zero_add] at this
    exact this
  · rintro ⟨f, hf⟩
    exact sol_in hf a.1.length 0 (by omega)
/-- the bits below n: where they lie -/
theorem flt_in (p : Nat → Bool) : ∀ n i, i < n → p i = true → ((List.range i).filter p).length < ((List.range n).filter p).length ∧ ((List.range n).filter p).getD ((List.range i).filter p).length 0 = i
  | 0, i, h, _ => absurd h (Nat.not_lt_zero _)
  | n + 1, i, h, hp => by
    rw [List.range_succ, List.filter_append]
    by_cases e : i = n
    · subst e
      rw [show [i].filter p = [i] by simp [hp], List.length_append]
      exact ⟨by simp, getD_e⟩
    · obtain ⟨h1, h2⟩ := flt_in p n i (by omega) hp
      rw [List.length_append]
      refine ⟨by omega, ?_⟩
      rw [List.getD_eq_getElem?_getD, List.getElem?_append_left h1, ← List.getD_eq_getElem?_getD]
      exact h2
theorem flt_out (p : Nat → Bool) : ∀ n j, j < ((List.range n).filter p).length → ((List.range n).filter p).getD j 0 < n ∧ p (((List.range n).filter p).getD j 0) = true ∧ ((List.range (((List.range n).filter p).getD j 0)).filter p).length = j
  | 0, j, h => by simp at h
  | n + 1, j, h => by
    rw [List.range_succ, List.filter_append] at h ⊢
    rw [List.length_append] at h
    by_cases e : j < ((List.range n).filter p).length
    · rw [List.getD_eq_getElem?_getD, List.getElem?_append_left e, ← List.getD_eq_getElem?_getD]
      obtain ⟨h1, h2, h3⟩ := flt_out p n j e
      exact ⟨by omega, h2, h3⟩
    · by_cases hp : p n = true
      · rw [show [n].filter p = [n] by simp [hp]] at h ⊢
        have hj : j = ((List.range n).filter p).length := by
          have : ([n] : List Nat).length = 1 := rfl
          omega
        rw [hj, getD_e]
        exact ⟨by omega, hp, rfl⟩
      · rw [show [n].filter p = [] by simp [hp]] at h
        simp at h
        omega
theorem map_get {α β : Type} {l : List α} {g : α → β} {d : α} {e : β} {j : Nat} (h : j < l.length) : (l.map g).getD j e = g (l.getD j d) := by
  rw [List.getD_eq_getElem?_getD, List.getD_eq_getElem?_getD, List.getElem?_map, List.getElem?_eq_getElem h]; rfl
theorem cho_len {t : Tx} {P L : Nat} : (choT t P L).1.length = ((List.range t.1.length).filter (fun i => P.testBit i)).length := by unfold choT; simp
theorem cho_mem {t : Tx} {P L : Nat} {l : Nat × Nat × Nat} : l ∈ (choT t P L).2.2 ↔ ∃ i, i < t.2.2.length ∧ L.testBit i = true ∧ l = (bcn P (t.2.2.getD i (0, 0, 0)).1, (t.2.2.getD i (0, 0, 0)).2.1, bcn P (t.2.2.getD i (0, 0, 0)).2.2) := by
  unfold choT
  rw [List.mem_map]
  constructor
  · rintro ⟨i, hi, e⟩
    obtain ⟨h1, h2⟩ := List.mem_filter.mp hi
    exact ⟨i, List.mem_range.mp h1, h2, e.symm⟩
  · rintro ⟨i, h1, h2, e⟩
    exact ⟨i, List.mem_filter.mpr ⟨List.mem_range.mpr h1, h2⟩, e.symm⟩
theorem all_bit' {n i : Nat} : (2 ^ n - 1).testBit i = true ↔ i < n := by
  rw [Nat.testBit_two_pow_sub_one]; exact decide_eq_true_iff
/-- links among the parts that are told -/
def amL (t : Tx) (P L : Nat) : Prop := ∀ i, i < t.2.2.length → (L.testBit i = true ↔ P.testBit (t.2.2.getD i (0, 0, 0)).1 = true ∧ P.testBit (t.2.2.getD i (0, 0, 0)).2.2 = true)
theorem sub_dis {wd : Nat → Int32} {t b : Tx} {nW mp ml P L : Nat} (hok : TxOk nW mp ml t) (hL : amL t P L) : disB wd (choT t P L) b (2 ^ (choT t P L).1.length - 1) = disB wd t b P := by
  have hf := flt_in (fun i => P.testBit i) t.1.length
  have ho := flt_out (fun i => P.testBit i) t.1.length
  have key : (∃ f, Sol wd (choT t P L) b (2 ^ (choT t P L).1.length - 1) (choT t P L).1.length f) ↔ ∃ f, Sol wd t b P t.1.length f := by
    constructor
    · rintro ⟨f, h1, h2, h3⟩
      rw [cho_len] at h1 h2 h3
      refine ⟨fun i => f (bcn P i), fun i hi hb => ?_, fun i j hi hj hbi hbj e => ?_, fun l hl g1 g2 b1 b2 => ?_⟩
      · obtain ⟨q1, q2⟩ := hf i hi hb
        obtain ⟨r1, r2⟩ := h1 (bcn P i) q1 (all_bit'.mpr q1)
        refine ⟨r1, ?_⟩
        have e : (choT t P L).2.1.getD (bcn P i) 0 = t.2.1.getD i 0 := by
          show (((List.range t.1.length).filter (fun i => P.testBit i)).map (fun i => t.2.1.getD i 0)).getD (bcn P i) 0 = _
          rw [map_get (d := 0) (j := bcn P i) q1]
          show t.2.1.getD (((List.range t.1.length).filter (fun i => P.testBit i)).getD (bcn P i) 0) 0 = _
          rw [show ((List.range t.1.length).filter (fun i => P.testBit i)).getD (bcn P i) 0 = i from q2]
        rw [e] at r2
        exact r2
      · obtain ⟨q1, q2⟩ := hf i hi hbi
        obtain ⟨q3, q4⟩ := hf j hj hbj
        have := h2 (bcn P i) (bcn P j) q1 q3 (all_bit'.mpr q1) (all_bit'.mpr q3) e
        have q2 : ((List.range t.1.length).filter (fun i => P.testBit i)).getD (bcn P i) 0 = i := q2
        have q4 : ((List.range t.1.length).filter (fun i => P.testBit i)).getD (bcn P j) 0 = j := q4
        rw [← q2, ← q4, this]
      · obtain ⟨k, hk, e⟩ := List.getElem_of_mem hl
        have e : t.2.2.getD k (0, 0, 0) = l := by rw [List.getD_eq_getElem?_getD, List.getElem?_eq_getElem hk, e]; rfl
        have hb : L.testBit k = true := (hL k hk).mpr (by rw [e]; exact ⟨b1, b2⟩)
        have hm := (cho_mem (P := P)).mpr ⟨k, hk, hb, rfl⟩
        rw [e] at hm
        have q1 := (hf l.1 g1 b1).1
        have q2 := (hf l.2.2 g2 b2).1
        exact h3 _ hm q1 q2 (all_bit'.mpr q1) (all_bit'.mpr q2)
    · rintro ⟨f, h1, h2, h3⟩
      refine ⟨fun j => f (((List.range t.1.length).filter (fun i => P.testBit i)).getD j 0), ?_⟩
      unfold Sol
      rw [cho_len]
      refine ⟨fun j hj _ => ?_, fun i j hi hj _ _ e => ?_, fun l hl g1 g2 _ _ => ?_⟩
      · obtain ⟨q1, q2, q3⟩ := ho j hj
        obtain ⟨r1, r2⟩ := h1 _ q1 q2
        refine ⟨r1, ?_⟩
        have e : (choT t P L).2.1.getD j 0 = t.2.1.getD (((List.range t.1.length).filter (fun i => P.testBit i)).getD j 0) 0 := by
          show (((List.range t.1.length).filter (fun i => P.testBit i)).map (fun i => t.2.1.getD i 0)).getD j 0 = _
          rw [map_get (d := 0) hj]
        rw [e]
        exact r2
      · obtain ⟨q1, q2, q3⟩ := ho i hi
        obtain ⟨q4, q5, q6⟩ := ho j hj
        have := h2 _ _ q1 q4 q2 q5 e
        rw [this] at q3
        omega
      · obtain ⟨i, hi, hb, e⟩ := cho_mem.mp hl
        have hq := (hL i hi).mp hb
        have hm : t.2.2.getD i (0, 0, 0) ∈ t.2.2 := getD_mem hi
        have hb2 := hok.2.2.2.2.2 _ hm
        generalize t.2.2.getD i (0, 0, 0) = q at e hq hm hb2
        subst e
        have r1 := (hf q.1 hb2.1 hq.1).2
        have r2 := (hf q.2.2 hb2.2.2 hq.2).2
        have := h3 q hm hb2.1 hb2.2.2 hq.1 hq.2
        show hlB wd b (f (((List.range t.1.length).filter (fun i => P.testBit i)).getD (bcn P q.1) 0)) q.2.1 (f (((List.range t.1.length).filter (fun i => P.testBit i)).getD (bcn P q.2.2) 0)) = true
        rw [show ((List.range t.1.length).filter (fun i => P.testBit i)).getD (bcn P q.1) 0 = q.1 from r1, show ((List.range t.1.length).filter (fun i => P.testBit i)).getD (bcn P q.2.2) 0 = q.2.2 from r2]
        exact this
  rw [← disB_iff, ← disB_iff] at key
  cases h1 : disB wd (choT t P L) b (2 ^ (choT t P L).1.length - 1) with
  | true => exact (key.mp h1).symm
  | false => cases h2 : disB wd t b P with
    | true => rw [key.mpr h2] at h1; cases h1
    | false => rfl
/-- such a text is a good one -/
theorem cho_ok {t : Tx} {nW mp ml P L : Nat} (hok : TxOk nW mp ml t) (hL : ∀ i, i < t.2.2.length → L.testBit i = true → P.testBit (t.2.2.getD i (0, 0, 0)).1 = true ∧ P.testBit (t.2.2.getD i (0, 0, 0)).2.2 = true) : TxOk nW mp ml (choT t P L) := by
  have hf := flt_in (fun i => P.testBit i) t.1.length
  refine ⟨?_, by unfold choT; simp, ?_, ?_, ?_, ?_⟩
  · unfold choT
    show (((List.range t.1.length).filter (fun i => P.testBit i)).map (fun i => t.1.getD i [])).Nodup
    rw [List.Nodup, List.pairwise_map]
    refine List.Pairwise.imp_of_mem ?_ (List.Pairwise.filter _ List.nodup_range)
    intro i j hi hj hne e
    have h1 := List.mem_range.mp (List.mem_filter.mp hi).1
    have h2 := List.mem_range.mp (List.mem_filter.mp hj).1
    rw [List.getD_eq_getElem?_getD, List.getD_eq_getElem?_getD, List.getElem?_eq_getElem h1, List.getElem?_eq_getElem h2] at e
    have e : t.1[i] = t.1[j] := e
    rcases Nat.lt_or_gt_of_ne hne with z | z
    · exact List.pairwise_iff_getElem.mp hok.1 i j h1 h2 z e
    · exact List.pairwise_iff_getElem.mp hok.1 j i h2 h1 z e.symm
  · rw [cho_len]
    have := List.length_filter_le (fun i => P.testBit i) (List.range t.1.length)
    rw [List.length_range] at this
    have := hok.2.2.1
    omega
  · have h1 : (choT t P L).2.2.length = ((List.range t.2.2.length).filter (fun i => L.testBit i)).length := by unfold choT; simp
    have := List.length_filter_le (fun i => L.testBit i) (List.range t.2.2.length)
    rw [List.length_range] at this
    have := hok.2.2.2.1
    omega
  · intro w hw
    obtain ⟨i, hi, e⟩ := List.mem_map.mp (show w ∈ ((List.range t.1.length).filter (fun i => P.testBit i)).map (fun i => t.2.1.getD i 0) from hw)
    have h1 := List.mem_range.mp (List.mem_filter.mp hi).1
    rw [← e]
    exact hok.2.2.2.2.1 _ (getD_mem (by rw [hok.2.1]; exact h1))
  · intro l hl
    obtain ⟨i, hi, hb, e⟩ := cho_mem.mp hl
    have hq := hL i hi hb
    have hb2 := hok.2.2.2.2.2 _ (getD_mem (d := (0, 0, 0)) hi)
    rw [cho_len, e]
    exact ⟨(hf _ hb2.1 hq.1).1, hb2.2.1, (hf _ hb2.2.2 hq.2).1⟩
theorem plnR_one {c : Co} {k kn : Nat} {r r' : Int32} (h : plnR c k kn r) (h' : plnR c k kn r') : r = r' := by
  rcases h with ⟨p, q, h1, h2, h3, h4, rfl⟩ | ⟨h1, rfl⟩
  · rcases h' with ⟨p', q', h1', h2', h3', h4', rfl⟩ | ⟨h1', rfl⟩
    · have a1 := h4 p' q' h1' h2' h3'
      have a2 := h4' p q h1 h2 h3
      rw [show 100 * p + q = 100 * p' + q' by omega]
    · rw [h1' p q h1 h2] at h3; cases h3
  · rcases h' with ⟨p', q', h1', h2', h3', h4', rfl⟩ | ⟨h1', rfl⟩
    · rw [h1 p' q' h1' h2'] at h3'; cases h3'
    · rfl
