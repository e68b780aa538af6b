/-! the model's cells stand for what is told -/
theorem ix_some {a : Int32} {n k : Nat} (h : ix a n = some k) (hn : n < 2147483648 := by omega) : k < n ∧ a = nI k := by
  unfold ix at h
  by_cases c : 0 ≤ a ∧ a < nI n
  · rw [if_pos c] at h
    cases h
    have e : a = nI a.toNatClampNeg := by
      have h0 : (0 : Int) ≤ a.toInt := by
        have := Int32.le_iff_toInt_le.mp c.1
        simpa using this
      apply Int32.toInt_inj.mp
      have hb : a.toNatClampNeg < 2147483648 := by
        have := Int32.toInt_lt a
        show a.toInt.toNat < 2147483648
        omega
      rw [nI_toInt hb]
      show a.toInt = ((a.toInt.toNat : Nat) : Int)
      omega
    have hb : a.toNatClampNeg < 2147483648 := by
      have := Int32.toInt_lt a
      show a.toInt.toNat < 2147483648
      omega
    have c2 := c.2
    rw [e] at c2
    exact ⟨lt_lt c2 hb hn, e⟩
  · rw [if_neg c] at h; cases h
theorem ix_nI {n k : Nat} (h : k < n) (hn : n < 2147483648 := by omega) : ix (nI k) n = some k := by
  unfold ix
  rw [if_pos ⟨nI_pos' (by omega), (nI_ltI (by omega) (by omega)).mpr h⟩, nI_clamp (by omega)]
theorem ix_in {a : Int32} {n k : Nat} (h : ix a n = some k) : 0 ≤ a ∧ a < nI n := by
  unfold ix at h
  by_cases c : 0 ≤ a ∧ a < nI n
  · exact c
  · rw [if_neg c] at h; cases h
theorem ix_no {a : Int32} {n : Nat} (h : ix a n = none) : ¬ (0 ≤ a ∧ a < nI n) := by
  intro c
  unfold ix at h
  rw [if_pos c] at h
  cases h
/-- up to n: n + 1 values -/
theorem lt_su {a : Int32} {n : Nat} (hn : n + 1 < 2147483648) : a < nI (n + 1) ↔ a ≤ nI n := by
  rw [Int32.lt_iff_toInt_lt, Int32.le_iff_toInt_le, nI_toInt (by omega), nI_toInt (by omega)]
  omega
theorem ixn_in {a : Int32} {n k : Nat} (h : ixn a n = some k) (hn : n + 1 < 2147483648 := by omega) : 0 ≤ a ∧ a ≤ nI n := ⟨(ix_in h).1, (lt_su hn).mp (ix_in h).2⟩
theorem ixn_no {a : Int32} {n : Nat} (h : ixn a n = none) (hn : n + 1 < 2147483648 := by omega) : ¬ (0 ≤ a ∧ a ≤ nI n) := fun z => ix_no h ⟨z.1, (lt_su hn).mpr z.2⟩
theorem ixn_some {a : Int32} {n k : Nat} (h : ixn a n = some k) (hn : n + 1 < 2147483648 := by omega) : k ≤ n ∧ a = nI k := by
  have := ix_some h hn
  exact ⟨by omega, this.2⟩
/-- one below: the hall's bounds -/
theorem le_p {a : Int32} {n : Nat} (hn : n < 2147483648) : a ≤ nI n - 1 ↔ a < nI n := by
  cases n with
  | zero =>
    rw [Int32.lt_iff_toInt_lt, Int32.le_iff_toInt_le, nI_toInt (by omega), show (nI 0 - 1 : Int32).toInt = -1 by decide]
    omega
  | succ n =>
    rw [show nI (n + 1) - 1 = nI n by rw [← nI_1, Int32.add_sub_cancel], lt_su hn]
theorem ixo_no {a : Int32} {n : Nat} (h : ixo a n = none) : ¬ a = -1 ∧ ix a n = none := by
  unfold ixo at h
  by_cases c : a = -1
  · rw [if_pos c] at h; cases h
  · rw [if_neg c] at h
    cases hi : ix a n with
    | none => exact ⟨c, rfl⟩
    | some k => rw [hi] at h; cases h
theorem ixo_n {a : Int32} {n : Nat} (h : ixo a n = some none) : a = -1 := by
  unfold ixo at h
  by_cases c : a = -1
  · exact c
  · rw [if_neg c] at h
    cases hi : ix a n with
    | none => rw [hi] at h; cases h
    | some k => rw [hi] at h; cases h
theorem ixo_s {a : Int32} {n k : Nat} (h : ixo a n = some (some k)) : ix a n = some k ∧ ¬ a = -1 := by
  unfold ixo at h
  by_cases c : a = -1
  · rw [if_pos c] at h; cases h
  · rw [if_neg c] at h
    cases hi : ix a n with
    | none => rw [hi] at h; cases h
    | some j => rw [hi] at h; cases h; exact ⟨rfl, c⟩
theorem ixo_enc {a : Int32} {n : Nat} {o : Option Nat} (h : ixo a n = some o) (hn : n < 2147483648 := by omega) : a = enc o ∧ ∀ k, o = some k → k < n := by
  cases o with
  | none => exact ⟨ixo_n h, fun k z => nomatch z⟩
  | some k => exact ⟨(ix_some (ixo_s h).1 hn).2, fun j z => by cases z; exact (ix_some (ixo_s h).1 hn).1⟩
theorem getD_snoc {α : Type} {l : List α} {x d : α} {k : Nat} (h : k < (l ++ [x]).length) : (k < l.length ∧ (l ++ [x]).getD k d = l.getD k d) ∨ (k = l.length ∧ (l ++ [x]).getD k d = x) := by
  rw [List.length_append] at h
  have h : k < l.length + 1 := h
  by_cases e : k = l.length
  · right; exact ⟨e, by rw [e, getD_e]⟩
  · left; exact ⟨by omega, getD_l (by omega)⟩
theorem getD_cut {α : Type} {l : List α} {d : α} {k : Nat} (h : k < l.dropLast.length) : k < l.length ∧ l.dropLast.getD k d = l.getD k d := by
  rw [List.length_dropLast] at h
  refine ⟨by omega, ?_⟩
  rw [List.getD_eq_getElem?_getD, List.getD_eq_getElem?_getD, List.getElem?_dropLast, if_pos h]
theorem getD_set {α : Type} {l : List α} {x d : α} {i k : Nat} (h : i < l.length) : (l.set i x).getD k d = if k = i then x else l.getD k d := by
  rw [List.getD_eq_getElem?_getD, List.getD_eq_getElem?_getD, List.getElem?_set]
  by_cases e : i = k
  · rw [if_pos e, if_pos e.symm, if_pos h]; rfl
  · rw [if_neg e, if_neg (fun z => e z.symm)]
theorem modC_len {l : List Cl} {k : Nat} {f : Cl → Cl} : (modC l k f).length = l.length := List.length_set
theorem modC_get {l : List Cl} {k j : Nat} {f : Cl → Cl} (h : k < l.length) : (modC l k f).getD j dC = if j = k then f (l.getD k dC) else l.getD j dC := getD_set h
def WrdR (la : Nat → Int64) (wd : Nat → Int32) (c : Co) : Prop := Lrep la (cW c) ∧ ∀ k, k < (cW c).length → wd k = enc ((cV c).getD k none)
def PapR (G : pG) (T : va_W) (r : Nat → Option Nat) (a b : Nat → Int32) (l : List Pp) : Prop := ∀ k, k < l.length → (∃ q, r k = some q ∧ MT G T q (l.getD k dP).1) ∧ a k = nI (l.getD k dP).2.1 ∧ b k = nI (l.getD k dP).2.2
def FilR (G : pG) (T : va_W) (r : Nat → Option Nat) (a b : Nat → Int32) (l : List Ff) : Prop := ∀ k, k < l.length → (∃ q, r k = some q ∧ MT G T q (l.getD k dF).1) ∧ a k = nI (l.getD k dF).2.1 ∧ b k = enc (l.getD k dF).2.2
def ThiR (G : pG) (T : va_W) (r : Nat → Option Nat) (a : Nat → Int32) (l : List (Tx × Nat)) : Prop := ∀ k, k < l.length → (∃ q, r k = some q ∧ MT G T q (l.getD k dG).1) ∧ a k = nI (l.getD k dG).2
def ClaR (G : pG) (T : va_W) (r : Nat → Option Nat) (a b d e f : Nat → Int32) (l : List Cl) : Prop := ∀ k, k < l.length → (∃ q, r k = some q ∧ MT G T q (l.getD k dC).1) ∧ a k = nI (l.getD k dC).2.1 ∧ b k = enc (l.getD k dC).2.2.1 ∧ d k = nI (l.getD k dC).2.2.2.1 ∧ e k = enc (l.getD k dC).2.2.2.2.1 ∧ f k = enc (l.getD k dC).2.2.2.2.2
theorem PapR.add {G : pG} {T : va_W} {r : Nat → Option Nat} {a b : Nat → Int32} {l : List Pp} {p : Pp} {q : Nat} (h : PapR G T r a b l) (ht : MT G T q p.1) : PapR G T (va_up r l.length (some q)) (va_up a l.length (nI p.2.1)) (va_up b l.length (nI p.2.2)) (l ++ [p]) := by
  intro k hk
  rcases getD_snoc (d := dP) hk with ⟨h1, e⟩ | ⟨h1, e⟩
  · rw [e, up_n (by omega), up_n (by omega), up_n (by omega)]; exact h k h1
  · rw [e, h1, up_s, up_s, up_s]; exact ⟨⟨q, rfl, ht⟩, rfl, rfl⟩
theorem PapR.cut {G : pG} {T : va_W} {r : Nat → Option Nat} {a b : Nat → Int32} {l : List Pp} (h : PapR G T r a b l) : PapR G T r a b l.dropLast := by
  intro k hk
  obtain ⟨h1, e⟩ := getD_cut (d := dP) hk
  rw [e]; exact h k h1
theorem PapR.mono {G : pG} {T T1 : va_W} {r : Nat → Option Nat} {a b : Nat → Int32} {l : List Pp} (h : PapR G T r a b l) (hs : ∀ q ∈ T, q ∈ T1) : PapR G T1 r a b l := fun k hk => ⟨let ⟨q, h1, h2⟩ := (h k hk).1; ⟨q, h1, h2.mono hs⟩, (h k hk).2⟩
theorem FilR.add {G : pG} {T : va_W} {r : Nat → Option Nat} {a b : Nat → Int32} {l : List Ff} {p : Ff} {q : Nat} (h : FilR G T r a b l) (ht : MT G T q p.1) : FilR G T (va_up r l.length (some q)) (va_up a l.length (nI p.2.1)) (va_up b l.length (enc p.2.2)) (l ++ [p]) := by
  intro k hk
  rcases getD_snoc (d := dF) hk with ⟨h1, e⟩ | ⟨h1, e⟩
  · rw [e, up_n (by omega), up_n (by omega), up_n (by omega)]; exact h k h1
  · rw [e, h1, up_s, up_s, up_s]; exact ⟨⟨q, rfl, ht⟩, rfl, rfl⟩
theorem FilR.cut {G : pG} {T : va_W} {r : Nat → Option Nat} {a b : Nat → Int32} {l : List Ff} (h : FilR G T r a b l) : FilR G T r a b l.dropLast := by
  intro k hk
  obtain ⟨h1, e⟩ := getD_cut (d := dF) hk
  rw [e]; exact h k h1
theorem FilR.mono {G : pG} {T T1 : va_W} {r : Nat → Option Nat} {a b : Nat → Int32} {l : List Ff} (h : FilR G T r a b l) (hs : ∀ q ∈ T, q ∈ T1) : FilR G T1 r a b l := fun k hk => ⟨let ⟨q, h1, h2⟩ := (h k hk).1; ⟨q, h1, h2.mono hs⟩, (h k hk).2⟩
theorem ThiR.add {G : pG} {T : va_W} {r : Nat → Option Nat} {a : Nat → Int32} {l : List (Tx × Nat)} {p : Tx × Nat} {q : Nat} (h : ThiR G T r a l) (ht : MT G T q p.1) : ThiR G T (va_up r l.length (some q)) (va_up a l.length (nI p.2)) (l ++ [p]) := by
  intro k hk
  rcases getD_snoc (d := dG) hk with ⟨h1, e⟩ | ⟨h1, e⟩
  · rw [e, up_n (by omega), up_n (by omega)]; exact h k h1
  · rw [e, h1, up_s, up_s]; exact ⟨⟨q, rfl, ht⟩, rfl⟩
theorem ThiR.cut {G : pG} {T : va_W} {r : Nat → Option Nat} {a : Nat → Int32} {l : List (Tx × Nat)} (h : ThiR G T r a l) : ThiR G T r a l.dropLast := by
  intro k hk
  obtain ⟨h1, e⟩ := getD_cut (d := dG) hk
  rw [e]; exact h k h1
theorem ThiR.mono {G : pG} {T T1 : va_W} {r : Nat → Option Nat} {a : Nat → Int32} {l : List (Tx × Nat)} (h : ThiR G T r a l) (hs : ∀ q ∈ T, q ∈ T1) : ThiR G T1 r a l := fun k hk => ⟨let ⟨q, h1, h2⟩ := (h k hk).1; ⟨q, h1, h2.mono hs⟩, (h k hk).2⟩
theorem ClaR.add {G : pG} {T : va_W} {r : Nat → Option Nat} {a b d e f : Nat → Int32} {l : List Cl} {t : Tx} {fi kn q : Nat} {on : Option Nat} (h : ClaR G T r a b d e f l) (ht : MT G T q t) : ClaR G T (va_up r l.length (some q)) (va_up a l.length (nI fi)) (va_up b l.length (enc on)) (va_up d l.length (nI kn)) (va_up e l.length (-1)) (va_up f l.length (-1)) (l ++ [(t, fi, on, kn, none, none)]) := by
  intro k hk
  rcases getD_snoc (d := dC) hk with ⟨h1, z⟩ | ⟨h1, z⟩
  · rw [z, up_n (by omega), up_n (by omega), up_n (by omega), up_n (by omega), up_n (by omega), up_n (by omega)]; exact h k h1
  · rw [z, h1, up_s, up_s, up_s, up_s, up_s, up_s]; exact ⟨⟨q, rfl, ht⟩, rfl, rfl, rfl, rfl, rfl⟩
theorem ClaR.cut {G : pG} {T : va_W} {r : Nat → Option Nat} {a b d e f : Nat → Int32} {l : List Cl} (h : ClaR G T r a b d e f l) : ClaR G T r a b d e f l.dropLast := by
  intro k hk
  obtain ⟨h1, z⟩ := getD_cut (d := dC) hk
  rw [z]; exact h k h1
theorem ClaR.mono {G : pG} {T T1 : va_W} {r : Nat → Option Nat} {a b d e f : Nat → Int32} {l : List Cl} (h : ClaR G T r a b d e f l) (hs : ∀ q ∈ T, q ∈ T1) : ClaR G T1 r a b d e f l := fun k hk => ⟨let ⟨q, h1, h2⟩ := (h k hk).1; ⟨q, h1, h2.mono hs⟩, (h k hk).2⟩
theorem ClaR.tx {G : pG} {T : va_W} {r : Nat → Option Nat} {a b d e f : Nat → Int32} {l : List Cl} {t : Tx} {i q : Nat} (h : ClaR G T r a b d e f l) (hi : i < l.length) (ht : MT G T q t) : ClaR G T (va_up r i (some q)) a b d e f (modC l i (sTx t)) := by
  intro k hk
  rw [modC_len] at hk
  rw [modC_get hi]
  by_cases z : k = i
  · rw [if_pos z, z, up_s]
    exact ⟨⟨q, rfl, ht⟩, (h i hi).2⟩
  · rw [if_neg z, up_n z]; exact h k hk
theorem ClaR.gr {G : pG} {T : va_W} {r : Nat → Option Nat} {a b d e f : Nat → Int32} {l : List Cl} {g : Option Nat} {i : Nat} (h : ClaR G T r a b d e f l) (hi : i < l.length) : ClaR G T r a b d (va_up e i (enc g)) f (modC l i (sGr g)) := by
  intro k hk
  rw [modC_len] at hk
  rw [modC_get hi]
  by_cases z : k = i
  · rw [if_pos z, z, up_s]
    obtain ⟨h1, h2, h3, h4, h5, h6⟩ := h i hi
    exact ⟨h1, h2, h3, h4, rfl, h6⟩
  · rw [if_neg z, up_n z]; exact h k hk
theorem ClaR.dr {G : pG} {T : va_W} {r : Nat → Option Nat} {a b d e f : Nat → Int32} {l : List Cl} {g : Option Nat} {i : Nat} (h : ClaR G T r a b d e f l) (hi : i < l.length) : ClaR G T r a b d e (va_up f i (enc g)) (modC l i (sDr g)) := by
  intro k hk
  rw [modC_len] at hk
  rw [modC_get hi]
  by_cases z : k = i
  · rw [if_pos z, z, up_s]
    obtain ⟨h1, h2, h3, h4, h5, h6⟩ := h i hi
    exact ⟨h1, h2, h3, h4, h5, rfl⟩
  · rw [if_neg z, up_n z]; exact h k hk
theorem WrdR.add {la : Nat → Int64} {wd : Nat → Int32} {c : Co} {u : List Nat} {o : Option Nat} (h : WrdR la wd c) (hl : (cV c).length = (cW c).length) (hu : WfW u) : WrdR (va_up la (cW c).length (encL u)) (va_up wd (cW c).length (enc o)) (cW c ++ [u], cV c ++ [o], c.2.2) := by
  refine ⟨fun k hk => ?_, fun k hk => ?_⟩
  · rcases getD_snoc (d := []) hk with ⟨h1, z⟩ | ⟨h1, z⟩
    · rw [z, up_n (by omega)]; exact h.1 k h1
    · rw [z, h1, up_s]; exact ⟨rfl, hu⟩
  · have hk : k < (cW c ++ [u]).length := hk
    rw [List.length_append] at hk
    have hk : k < (cW c).length + 1 := hk
    show va_up wd (cW c).length (enc o) k = enc ((cV c ++ [o]).getD k none)
    by_cases z : k = (cW c).length
    · rw [z, up_s, ← hl, getD_e]
    · rw [up_n z, getD_l (by omega)]; exact h.2 k (by omega)
theorem WrdR.cut {la : Nat → Int64} {wd : Nat → Int32} {c : Co} (h : WrdR la wd c) (hl : (cV c).length = (cW c).length) : WrdR la wd ((cW c).dropLast, (cV c).dropLast, c.2.2) := by
  refine ⟨fun k hk => ?_, fun k hk => ?_⟩
  · obtain ⟨h1, z⟩ := getD_cut (d := []) hk
    rw [z]; exact h.1 k h1
  · obtain ⟨h1, -⟩ := getD_cut (d := []) hk
    have h2 : k < (cV c).dropLast.length := by
      have hk : k < (cW c).dropLast.length := hk
      rw [List.length_dropLast] at hk ⊢
      omega
    obtain ⟨-, z⟩ := getD_cut (d := none) h2
    show wd k = enc ((cV c).dropLast.getD k none)
    rw [z]; exact h.2 k h1
/-- an act in the model's cells -/
def ActM (G : pG) (T : va_W) (wh on : Nat → Int32) (tx : Nat → Option Nat) : List Ac → Prop
  | [] => True
  | a :: as => (wh as.length = nI a.1 ∧ on as.length = nI a.2.1 ∧ (a.1 = 6 → ∃ q, tx as.length = some q ∧ MT G T q a.2.2.2)) ∧ ActM G T wh on tx as
theorem ActM.mono {G : pG} {T T1 : va_W} {wh on : Nat → Int32} {tx : Nat → Option Nat} (hs : ∀ q ∈ T, q ∈ T1) : ∀ {l : List Ac}, ActM G T wh on tx l → ActM G T1 wh on tx l
  | [], _ => trivial
  | a :: as, h => ⟨⟨h.1.1, h.1.2.1, fun z => let ⟨q, h1, h2⟩ := h.1.2.2 z; ⟨q, h1, h2.mono hs⟩⟩, ActM.mono hs h.2⟩
theorem ActM.up {G : pG} {T : va_W} {wh on : Nat → Int32} {tx : Nat → Option Nat} {n : Nat} {v1 v2 : Int32} {v3 : Option Nat} : ∀ {l : List Ac}, l.length ≤ n → ActM G T wh on tx l → ActM G T (va_up wh n v1) (va_up on n v2) (va_up tx n v3) l
  | [], _, _ => trivial
  | a :: as, hn, h => by
    have hn : as.length + 1 ≤ n := hn
    refine ⟨?_, ActM.up (by omega) h.2⟩
    rw [up_n (by omega), up_n (by omega), up_n (by omega)]
    exact h.1
theorem ActM.add {G : pG} {T : va_W} {wh on : Nat → Int32} {tx : Nat → Option Nat} {l : List Ac} {a : Ac} {v3 : Option Nat} (h : ActM G T wh on tx l) (h3 : a.1 = 6 → ∃ q, v3 = some q ∧ MT G T q a.2.2.2) : ActM G T (va_up wh l.length (nI a.1)) (va_up on l.length (nI a.2.1)) (va_up tx l.length v3) (a :: l) := by
  refine ⟨?_, ActM.up (Nat.le_refl _) h⟩
  rw [up_s, up_s, up_s]
  exact ⟨rfl, rfl, h3⟩
def LstR (f : Nat → Int32) (l : List Nat) : Prop := ∀ k, k < l.length → f k = nI (l.getD k 0)
/-- the model stands for S -/
def MR (G : pG) (T : va_W) (y : XV) (S : AS) : Prop :=
  y.1 4 = nI (cW S.1).length ∧ WrdR (y.2.2.2.2.2 0) (y.2.1 0) S.1 ∧
  y.1 5 = nI (cP S.1).length ∧ PapR G T (y.2.2.1 0) (y.2.1 1) (y.2.1 2) (cP S.1) ∧
  y.1 6 = nI (cF S.1).length ∧ FilR G T (y.2.2.1 1) (y.2.1 4) (y.2.1 5) (cF S.1) ∧
  y.1 8 = nI (cT S.1).length ∧ ThiR G T (y.2.2.1 2) (y.2.1 3) (cT S.1) ∧
  y.1 7 = nI (cC S.1).length ∧ ClaR G T (y.2.2.1 3) (y.2.1 6) (y.2.1 7) (y.2.1 8) (y.2.1 9) (y.2.1 10) (cC S.1) ∧
  y.1 9 = nI (cN S.1) ∧
  y.1 10 = nI S.2.1.length ∧ ActM G T (y.2.1 11) (y.2.1 12) (y.2.2.1 4) S.2.1 ∧
  y.1 11 = nI S.2.2.2.1 ∧ y.2.1 13 = S.2.2.1 ∧
  y.1 1 = S.2.2.2.2.1.1 ∧ y.1 3 = S.2.2.2.2.1.2.1 ∧ y.1 2 = S.2.2.2.2.1.2.2.1 ∧ y.1 19 = S.2.2.2.2.1.2.2.2 ∧
  y.1 18 = nI S.2.2.2.2.2.1.length ∧ LstR (y.2.1 16) S.2.2.2.2.2.1 ∧
  y.1 20 = nI S.2.2.2.2.2.2.length ∧ LstR (y.2.1 17) S.2.2.2.2.2.2
theorem MR.mono {G : pG} {T T1 : va_W} {y : XV} {S : AS} (h : MR G T y S) (hs : ∀ q ∈ T, q ∈ T1) : MR G T1 y S := by
  obtain ⟨m0, m1, m2, m3, m4, m5, m6, m7, m8, m9, m10, m11, m12, mz⟩ := h
  exact ⟨m0, m1, m2, m3.mono hs, m4, m5.mono hs, m6, m7.mono hs, m8, m9.mono hs, m10, m11, m12.mono hs, mz⟩
theorem SOk.inv {n : Nat} {S : AS} (h : SOk n S) : InvC S.1 := h.1.inv
theorem wdF_ok {c : Co} (h : InvC c) : WdOk (wdF c) (cW c).length := by
  intro k hk
  have h1 := h.1.2.2.2.2 k (by rw [h.1.2.1]; exact hk)
  cases e : (cV c).getD k none with
  | none => left; show enc ((cV c).getD k none) = -1; rw [e]; rfl
  | some j => right; exact ⟨j, h1 j e, by show enc ((cV c).getD k none) = nI j; rw [e]; rfl⟩
theorem TxOk.wide {n : Nat} {t : Tx} (h : TxOk n 6 8 t) : TxOk n 8 10 t := ⟨h.1, h.2.1, by have := h.2.2.1; omega, by have := h.2.2.2.1; omega, h.2.2.2.2⟩
/-- words below n are under each other alike by either array -/
theorem und_cg {wd wd' : Nat → Int32} {n o : Nat} (h : ∀ k, k < n → wd' k = wd k) (hok : WdOk wd n) (hn : n ≤ 60) : ∀ g w, w < n → und wd' o g w = und wd o g w
  | 0, w, _ => rfl
  | g + 1, w, hw => by
    show (if w = o then true else if wd' w = -1 then false else und wd' o g (wd' w).toNatClampNeg) = (if w = o then true else if wd w = -1 then false else und wd o g (wd w).toNatClampNeg)
    rw [h w hw]
    by_cases e : w = o
    · rw [if_pos e, if_pos e]
    · rw [if_neg e, if_neg e]
      rcases hok w hw with z | ⟨j, hj, z⟩
      · rw [if_pos z, if_pos z]
      · rw [z]
        by_cases e2 : nI j = -1
        · rw [if_pos e2, if_pos e2]
        · rw [if_neg e2, if_neg e2]
          rw [nI_clamp (by omega)]
          exact und_cg h hok hn g _ (by omega)
theorem und_eq {wd wd' : Nat → Int32} {n : Nat} (h : ∀ k, k < n → wd' k = wd k) (hok : WdOk wd n) (hn : n ≤ 60) {w o : Nat} (hw : w < n) : underB wd' w o = underB wd w o := und_cg h hok hn 60 w hw
theorem WdOk.cg {wd wd' : Nat → Int32} {n : Nat} (h : ∀ k, k < n → wd' k = wd k) (hok : WdOk wd n) : WdOk wd' n := fun k hk => by rw [h k hk]; exact hok k hk
theorem any_cg {α : Type} {l : List α} {p q : α → Bool} (h : ∀ x ∈ l, p x = q x) : l.any p = l.any q := by
  induction l with
  | nil => rfl
  | cons a l ih => rw [List.any_cons, List.any_cons, h a List.mem_cons_self, ih (fun x hx => h x (List.mem_cons_of_mem _ hx))]
theorem all_cg {α : Type} {l : List α} {p q : α → Bool} (h : ∀ x ∈ l, p x = q x) : l.all p = l.all q := by
  induction l with
  | nil => rfl
  | cons a l ih => rw [List.all_cons, List.all_cons, h a List.mem_cons_self, ih (fun x hx => h x (List.mem_cons_of_mem _ hx))]
theorem hlB_cg {wd wd' : Nat → Int32} {n mp ml : Nat} {b : Tx} (h : ∀ k, k < n → wd' k = wd k) (hok : WdOk wd n) (hn : n ≤ 60) (hb : TxOk n mp ml b) (i w j : Nat) : hlB wd' b i w j = hlB wd b i w j :=
  any_cg (fun l hl => by rw [und_eq h hok hn (hb.2.2.2.2.2 l hl).2.1])
theorem lkB_cg {wd wd' : Nat → Int32} {n mp ml : Nat} {a b : Tx} (h : ∀ k, k < n → wd' k = wd k) (hok : WdOk wd n) (hn : n ≤ 60) (hb : TxOk n mp ml b) (A : List (Option Nat)) (k : Nat) : lkB wd' a b A k = lkB wd a b A k :=
  all_cg (fun l _ => by
    unfold lkP
    cases A.getD l.1 none with
    | none => rfl
    | some i => cases A.getD l.2.2 none with
      | none => rfl
      | some j => dsimp only; rw [hlB_cg h hok hn hb])
theorem fm_cg {α β : Type} {l : List α} {f g : α → List β} (h : ∀ x ∈ l, f x = g x) : l.flatMap f = l.flatMap g := by
  induction l with
  | nil => rfl
  | cons a l ih => rw [List.flatMap_cons, List.flatMap_cons, h a List.mem_cons_self, ih (fun x hx => h x (List.mem_cons_of_mem _ hx))]
theorem sols_cg {wd wd' : Nat → Int32} {n mp ml wn : Nat} {a b : Tx} (h : ∀ k, k < n → wd' k = wd k) (hok : WdOk wd n) (hn : n ≤ 60) (hb : TxOk n mp ml b) : ∀ m A, solsF wd' a b wn m A = solsF wd a b wn m A
  | 0, A => rfl
  | m + 1, A => by
    unfold solsF
    rw [sols_cg h hok hn hb m]
    rw [fm_cg (g := solB wd a b A (solsF wd a b wn m)) (fun p hp => by
      unfold solB
      rw [lkB_cg h hok hn hb, und_eq h hok hn (hb.2.2.2.2.1 _ (getD_mem (by rw [hb.2.1]; exact List.mem_range.mp hp))), sols_cg h hok hn hb m])]
theorem disB_cg {wd wd' : Nat → Int32} {n mp ml wn : Nat} {a b : Tx} (h : ∀ k, k < n → wd' k = wd k) (hok : WdOk wd n) (hn : n ≤ 60) (hb : TxOk n mp ml b) : disB wd' a b wn = disB wd a b wn := by
  unfold disB
  rw [sols_cg h hok hn hb]
