/-! ways: all placings of the wanted parts of a text in another one, part by part -/
def mskA (A : List (Option Nat)) : Nat := A.foldl (fun m o => match o with
  | none => m
  | some p => m ||| 2 ^ p) 0
theorem msk_fold (A : List (Option Nat)) (m p : Nat) : (A.foldl (fun m o => match o with
  | none => m
  | some p => m ||| 2 ^ p) m).testBit p = (m.testBit p || decide (some p ∈ A)) := by
  induction A generalizing m with
  | nil => simp
  | cons o A ih =>
    rw [List.foldl_cons, ih]
    cases o with
    | none => simp
    | some q =>
      dsimp only
      rw [Nat.testBit_or, Nat.testBit_two_pow]
      by_cases h : q = p
      · subst h; simp
      · have h2 : ¬ p = q := fun z => h z.symm
        simp [h, h2]
theorem msk_bit (A : List (Option Nat)) (p : Nat) : (mskA A).testBit p = decide (some p ∈ A) := by
  unfold mskA
  rw [msk_fold]
  simp
theorem msk_app (A : List (Option Nat)) (p : Nat) : mskA (A ++ [some p]) = mskA A ||| 2 ^ p := by
  unfold mskA
  rw [List.foldl_append]
  rfl
theorem msk_non (A : List (Option Nat)) : mskA (A ++ [none]) = mskA A := by
  unfold mskA
  rw [List.foldl_append]
  rfl
theorem mem_getD {A : List (Option Nat)} {p : Nat} (h : some p ∈ A) : ∃ i, A.getD i none = some p := by
  obtain ⟨i, hi, e⟩ := List.getElem_of_mem h
  exact ⟨i, by rw [List.getD_eq_getElem?_getD, List.getElem?_eq_getElem hi]; exact e⟩
theorem msk_lt {A : List (Option Nat)} (h : ∀ i p, A.getD i none = some p → p < 8) : mskA A < 2 ^ 8 := by
  apply Nat.lt_pow_two_of_testBit
  intro i hi
  rw [msk_bit]
  apply decide_eq_false
  intro z
  obtain ⟨k, hk⟩ := mem_getD z
  have := h k i hk
  omega
def solB (wd : Nat → Int32) (a b : Tx) (A : List (Option Nat)) (S : List (Option Nat) → List (List (Option Nat))) (p : Nat) : List (List (Option Nat)) :=
  if some p ∈ A ∨ underB wd (b.2.1.getD p 0) (a.2.1.getD A.length 0) = false ∨ lkB wd a b (A ++ [some p]) A.length = false then [] else S (A ++ [some p])
def solsF (wd : Nat → Int32) (a b : Tx) (wn : Nat) : Nat → List (Option Nat) → List (List (Option Nat))
  | 0, A => [A]
  | m + 1, A => if wn.testBit A.length = true then (List.range b.1.length).flatMap (solB wd a b A (solsF wd a b wn m)) else solsF wd a b wn m (A ++ [none])
/-- so many ways, all of them or one alone -/
def wC (one : Bool) (w k : Nat) : Nat := if one = true then (if w = 0 then min 1 k else w) else w + k
theorem wC_add (one : Bool) (w i j : Nat) : wC one (wC one w i) j = wC one w (i + j) := by
  unfold wC
  cases one with
  | false => simp; omega
  | true =>
    simp only [if_true]
    by_cases h : w = 0
    · rw [if_pos h, if_pos h]
      by_cases h2 : min 1 i = 0
      · rw [if_pos h2]; omega
      · rw [if_neg h2]; omega
    · rw [if_neg h, if_neg h, if_neg h]
theorem wC_0 (one : Bool) (w : Nat) : wC one w 0 = w := by
  unfold wC
  cases one with
  | false => simp
  | true =>
    simp only [if_true]
    by_cases h : w = 0
    · rw [if_pos h, h]; rfl
    · rw [if_neg h]
def fiF (w : Nat) (fi : Nat → Int32) (S : List (List (Option Nat))) (j : Nat) : Int32 := if w = 0 then (match S with
  | [] => fi j
  | A :: _ => enc (A.getD j none)) else fi j
theorem fiF_app {one : Bool} {w : Nat} {fi fi1 : Nat → Int32} {S1 S2 : List (List (Option Nat))} {j : Nat} (h1 : fi1 j = fiF w fi S1 j) : fiF (wC one w S1.length) fi1 S2 j = fiF w fi (S1 ++ S2) j := by
  unfold fiF at h1 ⊢
  by_cases h : w = 0
  · rw [if_pos h] at h1 ⊢
    cases S1 with
    | nil =>
      have e : wC one w ([] : List (List (Option Nat))).length = 0 := by rw [List.length_nil, wC_0, h]
      rw [e, if_pos rfl, List.nil_append, h1]
    | cons A S =>
      have e : ¬ wC one w (A :: S).length = 0 := by
        unfold wC
        rw [h, List.length_cons]
        cases one <;> simp <;> omega
      rw [if_neg e, h1]
      rfl
  · have e : ¬ wC one w S1.length = 0 := by
      unfold wC
      cases one <;> simp [h]
    rw [if_neg h] at h1 ⊢
    rw [if_neg e, h1]
theorem fi_nil (w : Nat) (fi : Nat → Int32) (j : Nat) : fiF w fi [] j = fi j := by
  unfold fiF
  by_cases h : w = 0
  · rw [if_pos h]
  · rw [if_neg h]
theorem rng_s {α : Type} (f : Nat → List α) (p : Nat) : (List.range (p + 1)).flatMap f = (List.range p).flatMap f ++ f p := by
  rw [List.range_succ, List.flatMap_append]
  simp
theorem rng_le {α : Type} (f : Nat → List α) {p n : Nat} (h : p ≤ n) : ∃ r, (List.range n).flatMap f = (List.range p).flatMap f ++ r := by
  obtain ⟨d, rfl⟩ := Nat.exists_eq_add_of_le h
  clear h
  induction d with
  | zero => exact ⟨[], by simp⟩
  | succ d ih =>
    obtain ⟨r, hr⟩ := ih
    exact ⟨r ++ f (p + d), by rw [show p + (d + 1) = p + d + 1 by omega, rng_s, hr, List.append_assoc]⟩
/-- the finder's own fields and arrays changed -/
def fdx (x : XV) (w fp : Int32) (to fi : Nat → Int32) : XV := xa (xa (xi (xi x 22 w) 23 fp) 2 to) 3 fi
abbrev FS : Type := Int32 × Int32 × (Nat → Int32) × (Nat → Int32)
def rmG (m : Nat) : Room := { frames := m + 5, cells := 0, slots := 0, locals := 60 * m + 200 }
theorem getD_up {A : List (Option Nat)} {o : Option Nat} {i : Nat} : (A ++ [o]).getD i none = if i = A.length then o else A.getD i none := by
  by_cases h : i = A.length
  · rw [if_pos h, h, getD_e]
  · rw [if_neg h]
    by_cases h2 : i < A.length
    · rw [getD_l h2]
    · rw [List.getD_eq_getElem?_getD, List.getD_eq_getElem?_getD, List.getElem?_eq_none (by rw [List.length_append]; simp; omega), List.getElem?_eq_none (by omega)]
theorem toA {to : Nat → Int32} {A : List (Option Nat)} {p : Nat} (h : ∀ i, i < 8 → to i = enc (A.getD i none)) : ∀ i, i < 8 → va_up to A.length (nI p) i = enc ((A ++ [some p]).getD i none) := by
  intro i hi
  rw [getD_up]
  by_cases e : i = A.length
  · rw [if_pos e, e, up_s]; rfl
  · rw [if_neg e, up_n e]; exact h i hi
theorem toB {to : Nat → Int32} {A : List (Option Nat)} {p : Nat} (h : ∀ i, i < 8 → to i = enc ((A ++ [some p]).getD i none)) : ∀ i, i < 8 → va_up to A.length (-1) i = enc (A.getD i none) := by
  intro i hi
  by_cases e : i = A.length
  · rw [e, up_s, List.getD_eq_getElem?_getD, List.getElem?_eq_none (Nat.le_refl _)]; rfl
  · rw [up_n e, h i hi, getD_up, if_neg e]
theorem A8 {A : List (Option Nat)} {p : Nat} (h : ∀ i q, A.getD i none = some q → q < 8) (hp : p < 8) : ∀ i q, (A ++ [some p]).getD i none = some q → q < 8 := by
  intro i q hq
  rw [getD_up] at hq
  by_cases e : i = A.length
  · rw [if_pos e] at hq; cases hq; exact hp
  · rw [if_neg e] at hq; exact h i q hq
theorem toN {to : Nat → Int32} {A : List (Option Nat)} (h : ∀ i, i < 8 → to i = enc (A.getD i none)) : ∀ i, i < 8 → to i = enc ((A ++ [none]).getD i none) := by
  intro i hi
  rw [getD_up]
  by_cases e : i = A.length
  · rw [if_pos e, h i hi, e, List.getD_eq_getElem?_getD, List.getElem?_eq_none (Nat.le_refl _)]; rfl
  · rw [if_neg e]; exact h i hi
theorem toM {to : Nat → Int32} {A : List (Option Nat)} (h : ∀ i, i < 8 → to i = enc ((A ++ [none]).getD i none)) : ∀ i, i < 8 → to i = enc (A.getD i none) := by
  intro i hi
  rw [h i hi, getD_up]
  by_cases e : i = A.length
  · rw [if_pos e, e, List.getD_eq_getElem?_getD, List.getElem?_eq_none (Nat.le_refl _)]; rfl
  · rw [if_neg e]
theorem ways_cut {w p n : Nat} {fi fi1 to1 : Nat → Int32} {A : List (Option Nat)} {S : List (List (Option Nat))} {f : Nat → List (List (Option Nat))} {fp1 : Int32} (eqS : S = (List.range n).flatMap f) (hr : ∃ r, (List.range n).flatMap f = (List.range p).flatMap f ++ r) (hgt : 0 < wC true w ((List.range p).flatMap f).length) (h2 : ∀ j, j < 8 → to1 j = enc (A.getD j none)) (h3 : ∀ j, j < 8 → fi1 j = fiF w fi ((List.range p).flatMap f) j) :
    ((nI (wC true w ((List.range p).flatMap f).length), fp1, to1, fi1) : FS).1 = nI (wC true w S.length) ∧ (∀ j, j < 8 → ((nI (wC true w ((List.range p).flatMap f).length), fp1, to1, fi1) : FS).2.2.1 j = enc (A.getD j none)) ∧ (∀ j, j < 8 → ((nI (wC true w ((List.range p).flatMap f).length), fp1, to1, fi1) : FS).2.2.2 j = fiF w fi S j) := by
  obtain ⟨r, hr⟩ := hr
  refine ⟨?_, h2, fun j hj => ?_⟩
  · rw [eqS, hr, List.length_append, ← wC_add]
    show nI _ = nI (wC true _ _)
    generalize wC true w ((List.range p).flatMap f).length = v at hgt ⊢
    unfold wC
    rw [if_pos rfl, if_neg (by omega)]
  · rw [eqS, hr, ← fiF_app (one := true) (h3 j hj)]
    unfold fiF
    rw [if_neg (by omega)]
theorem ways_end {one : Bool} {w p n : Nat} {fi fi1 to1 : Nat → Int32} {A : List (Option Nat)} {S : List (List (Option Nat))} {f : Nat → List (List (Option Nat))} {fp1 : Int32} (eqS : S = (List.range n).flatMap f) (hp : p = n) (h2 : ∀ j, j < 8 → to1 j = enc (A.getD j none)) (h3 : ∀ j, j < 8 → fi1 j = fiF w fi ((List.range p).flatMap f) j) :
    ((nI (wC one w ((List.range p).flatMap f).length), fp1, to1, fi1) : FS).1 = nI (wC one w S.length) ∧ (∀ j, j < 8 → ((nI (wC one w ((List.range p).flatMap f).length), fp1, to1, fi1) : FS).2.2.1 j = enc (A.getD j none)) ∧ (∀ j, j < 8 → ((nI (wC one w ((List.range p).flatMap f).length), fp1, to1, fi1) : FS).2.2.2 j = fiF w fi S j) := by
  subst hp
  rw [eqS]
  exact ⟨rfl, h2, h3⟩
theorem sol_yes {wd : Nat → Int32} {a b : Tx} {A : List (Option Nat)} {S : List (Option Nat) → List (List (Option Nat))} {p : Nat} (h1 : ¬ some p ∈ A) (h2 : underB wd (b.2.1.getD p 0) (a.2.1.getD A.length 0) = true) (h3 : lkB wd a b (A ++ [some p]) A.length = true) : solB wd a b A S p = S (A ++ [some p]) := by
  unfold solB
  rw [if_neg]
  rintro (z | z | z)
  · exact h1 z
  · rw [h2] at z; cases z
  · rw [h3] at z; cases z
theorem A8n {A : List (Option Nat)} (h : ∀ i q, A.getD i none = some q → q < 8) : ∀ i q, (A ++ [none]).getD i none = some q → q < 8 := by
  intro i q hq
  rw [getD_up] at hq
  by_cases e : i = A.length
  · rw [if_pos e] at hq; cases hq
  · rw [if_neg e] at hq; exact h i q hq

set_option maxRecDepth 100000 in
set_option maxHeartbeats 4000000 in
theorem mX3_goes0_true (l : Launch) (G : pG) (ad : Nat → Nat) (x : XV) (T : va_W) (pa pb : Nat) (a b : Tx) (ha9 : HT G T pa a) (hb9 : HT G T pb b) (h1 : x.2.2.2.1 1 = some pa) (h2 : x.2.2.2.1 2 = some pb) (nW : Nat) (hwd : WdOk (x.2.1 4) nW) (hW60 : nW ≤ 60) (hoka : TxOk nW 8 10 a) (hokb : TxOk nW 8 10 b) (wn : Nat) (hwn : wn < 256) (hwn2 : x.1 21 = nI wn) (ho : x.1 24 = 1) (A : List (Option Nat)) (w : Nat) (fp : Int32) (to fi : Nat → Int32) (g0 : A.length + 0 = a.1.length) (g1 : ∀ i, i < 8 → to i = enc (A.getD i none)) (g2 : ∀ i p, A.getD i none = some p → p < 8) (g3 : true = true → w = 0) (g4 : w + (solsF (x.2.1 4) a b wn 0 A).length < 2147483648) : Met l yX3_goes (ws_ yX3_goes cX3_goes 4 none) (rmG 0) (va_Pc [.ref (ad 5), .int (nI A.length), .int (nI (mskA A))] (fun U => pW G (HWl G ad (fdx x (nI w) fp to fi) ++ T) U)) (va_Qv (fun (u : FS) => u.1 = nI (wC true w (solsF (x.2.1 4) a b wn 0 A).length) ∧ (∀ j, j < 8 → u.2.2.1 j = enc (A.getD j none)) ∧ (∀ j, j < 8 → u.2.2.2 j = fiF w fi (solsF (x.2.1 4) a b wn 0 A) j)) (fun (u : FS) t9 => pW G (HWl G ad (fdx x u.1 u.2.1 u.2.2.1 u.2.2.2) ++ T) t9) (pA G)) 0 0 (pA G) := by
  refine mw (by decide) (Nat.le_of_ble_eq_true rfl) ?_
  intro pp ee R s m below meth c ls Q hF hRt hLk hnm hR hQ hW hl
  have hx := hF.1
  have hb := hF.2.1
  have hts := hF.2.2.2.2
  have hR1 : R.frames = 5 := by subst hR; rfl
  have hR2 : R.cells = 0 := by subst hR; rfl
  have hR3 : R.slots = 0 := by subst hR; rfl
  have hR4 : R.locals = 200 := by subst hR; rfl
  have hl : lv_has ls 4 [(0, .ref (ad 5)), (1, .int (nI A.length)), (2, .int (nI (mskA A)))] := hl
  have hW : pM G (HWl G ad (fdx x (nI w) fp to fi) ++ T) s s.heap [] := hW
  obtain ⟨ana, awa, ala, nfa, lfa, wfa, ha1, ha2, ha3, ha4, ha5⟩ := ha9
  have e0 : A.length = a.1.length := g0
  have ha8 := hoka.2.2.1
  have g4 : w + 1 < 2147483648 := g4
  refine lv_iload_n hx hb dX3_goes_0 rfl (lv_at hl 1 rfl) ?_
  refine lv_aload_n hx hb dX3_goes_1 rfl (lv_at hl 0 rfl) ?_
  refine gH5_what hF hW q215 (v := some pa) (h1) dX3_goes_2 ?_
  refine gt hF hW (ms_r ha1) (ci := 4) rfl in_X10 3 (by decide) q553 rfl (v := .int (nI a.1.length)) rfl dX3_goes_5 ?_
  refine lv_icmp_ne (tgt := 56) hx hb dX3_goes_8 (by decide) (fun c_8 => absurd (show nI A.length = nI a.1.length by rw [e0]) c_8) (fun c_8 => ?_)
  refine lv_aload_n hx hb dX3_goes_11 rfl (lv_at hl 0 rfl) ?_
  refine lv_dup hx hb dX3_goes_12 rfl ?_
  refine gH5_ways hF hW q221 (v := nI w) (rfl) dX3_goes_13 ?_
  refine lv_iconst (v := 1) hx hb dX3_goes_16 (by decide) ?_
  refine lv_iadd hx hb dX3_goes_17 ?_
  refine lv_eqi (show (nI w) + 1 = nI (w + 1) from nI_add w 1) ?_
  refine pH5_ways hF hW q221 dX3_goes_18 (fun H locs hW => ?_)
  have hW : pM G (HWl G ad (xi (fdx x (nI w) fp to fi) 22 (nI (w + 1))) ++ T) s _ _ := hW
  refine lv_aload_n hx hb dX3_goes_21 rfl (lv_at hl 0 rfl) ?_
  refine gH5_ways hF hW q221 (v := nI (w + 1)) (rfl) dX3_goes_22 ?_
  refine lv_iconst (v := 1) hx hb dX3_goes_25 (by decide) ?_
  refine lv_icmp_ne (tgt := 55) hx hb dX3_goes_26 (by decide) (fun c_26 => ?_) (fun c_26 => ?_)
  · have hw0 : ¬ w = 0 := fun z => c_26 (by rw [z]; rfl)
    exact re_v hF hRt hLk hQ (by omega) (by omega) dX3_goes_55 (nI (w + 1), fp, to, fi) (⟨by show nI (w + 1) = nI (wC true w 1); unfold wC; simp; have := g3 rfl; rw [this]; rfl, g1, fun j hj => by show fi j = fiF w fi [A] j; unfold fiF; rw [if_neg hw0]⟩) hW
  · have hw0 : w = 0 := by have := eq_eq (b := 1) c_26; omega
    refine lv_aload_n hx hb dX3_goes_29 rfl (lv_at hl 0 rfl) ?_
    refine gH5_to hF hW q218 dX3_goes_30 ?_
    refine lv_iconst (v := 0) hx hb dX3_goes_33 (by decide) ?_
    refine lv_aload_n hx hb dX3_goes_34 rfl (lv_at hl 0 rfl) ?_
    refine gH5_first hF hW q219 dX3_goes_35 ?_
    refine lv_iconst (v := 0) hx hb dX3_goes_38 (by decide) ?_
    refine lv_bipush (v := 8) hx hb dX3_goes_39 (by decide) ?_
    refine cp_i (i := 0) (j := 0) (k := 8) hF hl.1.symm hW q758 q505 q504 q75 (List.mem_of_getElem? (i := 6) rfl) 7 rfl 0 0 rfl rfl (by decide) (by decide) (by decide) (by decide) (by decide) (lb hR1 rfl) (lb hR4 rfl) dX3_goes_41 (fun H locs hW => ?_)
    have hW : pM G (HWl G ad (xa (xi (fdx x (nI w) fp to fi) 22 (nI (w + 1))) 3 (va_cpy to fi 0 0 8)) ++ T) s _ _ := hW
    refine lv_aload_n hx hb dX3_goes_44 rfl (lv_at hl 0 rfl) ?_
    refine lv_aload_n hx hb dX3_goes_45 rfl (lv_at hl 0 rfl) ?_
    refine gH5_what hF hW q215 (v := some pa) (h1) dX3_goes_46 ?_
    refine gt hF hW (ms_r ha1) (ci := 4) rfl in_X10 3 (by decide) q553 rfl (v := .int (nI a.1.length)) rfl dX3_goes_49 ?_
    refine pH5_firstParts hF hW q222 dX3_goes_52 (fun H locs hW => ?_)
    have hW : pM G (HWl G ad (xa (xi (xi (fdx x (nI w) fp to fi) 22 (nI (w + 1))) 23 (nI a.1.length)) 3 (va_cpy to fi 0 0 8)) ++ T) s _ _ := hW
    exact re_v hF hRt hLk hQ (by omega) (by omega) dX3_goes_55 (nI (w + 1), nI a.1.length, to, va_cpy to fi 0 0 8) (⟨by show nI (w + 1) = nI (wC true w 1); unfold wC; simp; have := g3 rfl; rw [this]; rfl, g1, fun j hj => by show va_cpy to fi 0 0 8 j = fiF w fi [A] j; unfold fiF; rw [if_pos hw0, pk_cpy_in (Nat.zero_le _) (by omega)]; simpa using g1 j hj⟩) hW

set_option maxRecDepth 100000 in
set_option maxHeartbeats 4000000 in
theorem mX3_goes0_false (l : Launch) (G : pG) (ad : Nat → Nat) (x : XV) (T : va_W) (pa pb : Nat) (a b : Tx) (ha9 : HT G T pa a) (hb9 : HT G T pb b) (h1 : x.2.2.2.1 1 = some pa) (h2 : x.2.2.2.1 2 = some pb) (nW : Nat) (hwd : WdOk (x.2.1 4) nW) (hW60 : nW ≤ 60) (hoka : TxOk nW 8 10 a) (hokb : TxOk nW 8 10 b) (wn : Nat) (hwn : wn < 256) (hwn2 : x.1 21 = nI wn) (ho : x.1 24 = 0) (A : List (Option Nat)) (w : Nat) (fp : Int32) (to fi : Nat → Int32) (g0 : A.length + 0 = a.1.length) (g1 : ∀ i, i < 8 → to i = enc (A.getD i none)) (g2 : ∀ i p, A.getD i none = some p → p < 8) (g3 : false = true → w = 0) (g4 : w + (solsF (x.2.1 4) a b wn 0 A).length < 2147483648) : Met l yX3_goes (ws_ yX3_goes cX3_goes 4 none) (rmG 0) (va_Pc [.ref (ad 5), .int (nI A.length), .int (nI (mskA A))] (fun U => pW G (HWl G ad (fdx x (nI w) fp to fi) ++ T) U)) (va_Qv (fun (u : FS) => u.1 = nI (wC false w (solsF (x.2.1 4) a b wn 0 A).length) ∧ (∀ j, j < 8 → u.2.2.1 j = enc (A.getD j none)) ∧ (∀ j, j < 8 → u.2.2.2 j = fiF w fi (solsF (x.2.1 4) a b wn 0 A) j)) (fun (u : FS) t9 => pW G (HWl G ad (fdx x u.1 u.2.1 u.2.2.1 u.2.2.2) ++ T) t9) (pA G)) 0 0 (pA G) := by
  refine mw (by decide) (Nat.le_of_ble_eq_true rfl) ?_
  intro pp ee R s m below meth c ls Q hF hRt hLk hnm hR hQ hW hl
  have hx := hF.1
  have hb := hF.2.1
  have hts := hF.2.2.2.2
  have hR1 : R.frames = 5 := by subst hR; rfl
  have hR2 : R.cells = 0 := by subst hR; rfl
  have hR3 : R.slots = 0 := by subst hR; rfl
  have hR4 : R.locals = 200 := by subst hR; rfl
  have hl : lv_has ls 4 [(0, .ref (ad 5)), (1, .int (nI A.length)), (2, .int (nI (mskA A)))] := hl
  have hW : pM G (HWl G ad (fdx x (nI w) fp to fi) ++ T) s s.heap [] := hW
  obtain ⟨ana, awa, ala, nfa, lfa, wfa, ha1, ha2, ha3, ha4, ha5⟩ := ha9
  have e0 : A.length = a.1.length := g0
  have ha8 := hoka.2.2.1
  have g4 : w + 1 < 2147483648 := g4
  refine lv_iload_n hx hb dX3_goes_0 rfl (lv_at hl 1 rfl) ?_
  refine lv_aload_n hx hb dX3_goes_1 rfl (lv_at hl 0 rfl) ?_
  refine gH5_what hF hW q215 (v := some pa) (h1) dX3_goes_2 ?_
  refine gt hF hW (ms_r ha1) (ci := 4) rfl in_X10 3 (by decide) q553 rfl (v := .int (nI a.1.length)) rfl dX3_goes_5 ?_
  refine lv_icmp_ne (tgt := 56) hx hb dX3_goes_8 (by decide) (fun c_8 => absurd (show nI A.length = nI a.1.length by rw [e0]) c_8) (fun c_8 => ?_)
  refine lv_aload_n hx hb dX3_goes_11 rfl (lv_at hl 0 rfl) ?_
  refine lv_dup hx hb dX3_goes_12 rfl ?_
  refine gH5_ways hF hW q221 (v := nI w) (rfl) dX3_goes_13 ?_
  refine lv_iconst (v := 1) hx hb dX3_goes_16 (by decide) ?_
  refine lv_iadd hx hb dX3_goes_17 ?_
  refine lv_eqi (show (nI w) + 1 = nI (w + 1) from nI_add w 1) ?_
  refine pH5_ways hF hW q221 dX3_goes_18 (fun H locs hW => ?_)
  have hW : pM G (HWl G ad (xi (fdx x (nI w) fp to fi) 22 (nI (w + 1))) ++ T) s _ _ := hW
  refine lv_aload_n hx hb dX3_goes_21 rfl (lv_at hl 0 rfl) ?_
  refine gH5_ways hF hW q221 (v := nI (w + 1)) (rfl) dX3_goes_22 ?_
  refine lv_iconst (v := 1) hx hb dX3_goes_25 (by decide) ?_
  refine lv_icmp_ne (tgt := 55) hx hb dX3_goes_26 (by decide) (fun c_26 => ?_) (fun c_26 => ?_)
  · have hw0 : ¬ w = 0 := fun z => c_26 (by rw [z]; rfl)
    exact re_v hF hRt hLk hQ (by omega) (by omega) dX3_goes_55 (nI (w + 1), fp, to, fi) (⟨by show nI (w + 1) = nI (wC false w 1); unfold wC; simp, g1, fun j hj => by show fi j = fiF w fi [A] j; unfold fiF; rw [if_neg hw0]⟩) hW
  · have hw0 : w = 0 := by have := eq_eq (b := 1) c_26; omega
    refine lv_aload_n hx hb dX3_goes_29 rfl (lv_at hl 0 rfl) ?_
    refine gH5_to hF hW q218 dX3_goes_30 ?_
    refine lv_iconst (v := 0) hx hb dX3_goes_33 (by decide) ?_
    refine lv_aload_n hx hb dX3_goes_34 rfl (lv_at hl 0 rfl) ?_
    refine gH5_first hF hW q219 dX3_goes_35 ?_
    refine lv_iconst (v := 0) hx hb dX3_goes_38 (by decide) ?_
    refine lv_bipush (v := 8) hx hb dX3_goes_39 (by decide) ?_
    refine cp_i (i := 0) (j := 0) (k := 8) hF hl.1.symm hW q758 q505 q504 q75 (List.mem_of_getElem? (i := 6) rfl) 7 rfl 0 0 rfl rfl (by decide) (by decide) (by decide) (by decide) (by decide) (lb hR1 rfl) (lb hR4 rfl) dX3_goes_41 (fun H locs hW => ?_)
    have hW : pM G (HWl G ad (xa (xi (fdx x (nI w) fp to fi) 22 (nI (w + 1))) 3 (va_cpy to fi 0 0 8)) ++ T) s _ _ := hW
    refine lv_aload_n hx hb dX3_goes_44 rfl (lv_at hl 0 rfl) ?_
    refine lv_aload_n hx hb dX3_goes_45 rfl (lv_at hl 0 rfl) ?_
    refine gH5_what hF hW q215 (v := some pa) (h1) dX3_goes_46 ?_
    refine gt hF hW (ms_r ha1) (ci := 4) rfl in_X10 3 (by decide) q553 rfl (v := .int (nI a.1.length)) rfl dX3_goes_49 ?_
    refine pH5_firstParts hF hW q222 dX3_goes_52 (fun H locs hW => ?_)
    have hW : pM G (HWl G ad (xa (xi (xi (fdx x (nI w) fp to fi) 22 (nI (w + 1))) 23 (nI a.1.length)) 3 (va_cpy to fi 0 0 8)) ++ T) s _ _ := hW
    exact re_v hF hRt hLk hQ (by omega) (by omega) dX3_goes_55 (nI (w + 1), nI a.1.length, to, va_cpy to fi 0 0 8) (⟨by show nI (w + 1) = nI (wC false w 1); unfold wC; simp, g1, fun j hj => by show va_cpy to fi 0 0 8 j = fiF w fi [A] j; unfold fiF; rw [if_pos hw0, pk_cpy_in (Nat.zero_le _) (by omega)]; simpa using g1 j hj⟩) hW

set_option maxRecDepth 100000 in
set_option maxHeartbeats 16000000 in
theorem mX3_goesS_true (l : Launch) (G : pG) (ad : Nat → Nat) (x : XV) (T : va_W) (pa pb : Nat) (a b : Tx) (ha9 : HT G T pa a) (hb9 : HT G T pb b) (h1 : x.2.2.2.1 1 = some pa) (h2 : x.2.2.2.1 2 = some pb) (nW : Nat) (hwd : WdOk (x.2.1 4) nW) (hW60 : nW ≤ 60) (hoka : TxOk nW 8 10 a) (hokb : TxOk nW 8 10 b) (wn : Nat) (hwn : wn < 256) (hwn2 : x.1 21 = nI wn) (ho : x.1 24 = 1) (mm : Nat) (hrec : ∀ (A1 : List (Option Nat)) (w1 : Nat) (fp1 : Int32) (to1 fi1 : Nat → Int32), (A1.length + mm = a.1.length) → (∀ i, i < 8 → to1 i = enc (A1.getD i none)) → (∀ i p, A1.getD i none = some p → p < 8) → (true = true → w1 = 0) → (w1 + (solsF (x.2.1 4) a b wn mm A1).length < 2147483648) → Met l yX3_goes (ws_ yX3_goes cX3_goes 4 none) (rmG mm) (va_Pc [.ref (ad 5), .int (nI A1.length), .int (nI (mskA A1))] (fun U => pW G (HWl G ad (fdx x (nI w1) fp1 to1 fi1) ++ T) U)) (va_Qv (fun (u : FS) => u.1 = nI (wC true w1 (solsF (x.2.1 4) a b wn mm A1).length) ∧ (∀ j, j < 8 → u.2.2.1 j = enc (A1.getD j none)) ∧ (∀ j, j < 8 → u.2.2.2 j = fiF w1 fi1 (solsF (x.2.1 4) a b wn mm A1) j)) (fun (u : FS) t9 => pW G (HWl G ad (fdx x u.1 u.2.1 u.2.2.1 u.2.2.2) ++ T) t9) (pA G)) 0 0 (pA G)) (A : List (Option Nat)) (w : Nat) (fp : Int32) (to fi : Nat → Int32) (g0 : A.length + (mm + 1) = a.1.length) (g1 : ∀ i, i < 8 → to i = enc (A.getD i none)) (g2 : ∀ i p, A.getD i none = some p → p < 8) (g3 : true = true → w = 0) (g4 : w + (solsF (x.2.1 4) a b wn (mm + 1) A).length < 2147483648) : Met l yX3_goes (ws_ yX3_goes cX3_goes 4 none) (rmG (mm + 1)) (va_Pc [.ref (ad 5), .int (nI A.length), .int (nI (mskA A))] (fun U => pW G (HWl G ad (fdx x (nI w) fp to fi) ++ T) U)) (va_Qv (fun (u : FS) => u.1 = nI (wC true w (solsF (x.2.1 4) a b wn (mm + 1) A).length) ∧ (∀ j, j < 8 → u.2.2.1 j = enc (A.getD j none)) ∧ (∀ j, j < 8 → u.2.2.2 j = fiF w fi (solsF (x.2.1 4) a b wn (mm + 1) A) j)) (fun (u : FS) t9 => pW G (HWl G ad (fdx x u.1 u.2.1 u.2.2.1 u.2.2.2) ++ T) t9) (pA G)) 0 0 (pA G) := by
  refine mw (by decide) (Nat.le_of_ble_eq_true rfl) ?_
  intro pp ee R s m below meth c ls Q hF hRt hLk hnm hR hQ hW hl
  have hx := hF.1
  have hb := hF.2.1
  have hts := hF.2.2.2.2
  have hR1 : R.frames = mm + 1 + 5 := by subst hR; rfl
  have hR2 : R.cells = 0 := by subst hR; rfl
  have hR3 : R.slots = 0 := by subst hR; rfl
  have hR4 : R.locals = 60 * (mm + 1) + 200 := by subst hR; rfl
  have hl : lv_has ls 4 [(0, .ref (ad 5)), (1, .int (nI A.length)), (2, .int (nI (mskA A)))] := hl
  have hW : pM G (HWl G ad (fdx x (nI w) fp to fi) ++ T) s s.heap [] := hW
  obtain ⟨ana, awa, ala, nfa, lfa, wfa, ha1, ha2, ha3, ha4, ha5⟩ := (id ha9)
  obtain ⟨anb, awb, alb, nfb, lfb, wfb, hb1, hb2, hb3, hb4, hb5⟩ := (id hb9)
  have ha8 := hoka.2.2.1
  have hb8 := hokb.2.2.1
  have hkl : A.length < a.1.length := by omega
  have hm8 := msk_lt g2
  refine lv_iload_n hx hb dX3_goes_0 rfl (lv_at hl 1 rfl) ?_
  refine lv_aload_n hx hb dX3_goes_1 rfl (lv_at hl 0 rfl) ?_
  refine gH5_what hF hW q215 (v := some pa) (h1) dX3_goes_2 ?_
  refine gt hF hW (ms_r ha1) (ci := 4) rfl in_X10 3 (by decide) q553 rfl (v := .int (nI a.1.length)) rfl dX3_goes_5 ?_
  refine lv_icmp_ne (tgt := 56) hx hb dX3_goes_8 (by decide) (fun c_8 => ?_) (fun c_8 => absurd c_8 (fun z => by have := eq_eq z; omega))
  refine lv_aload_n hx hb dX3_goes_56 rfl (lv_at hl 0 rfl) ?_
  refine gH5_wanted hF hW q217 (v := nI wn) (hwn2) dX3_goes_57 ?_
  refine lv_iload_n hx hb dX3_goes_60 rfl (lv_at hl 1 rfl) ?_
  refine lv_ishr hx hb dX3_goes_61 ?_
  refine lv_iconst (v := 1) hx hb dX3_goes_62 (by decide) ?_
  refine lv_iand hx hb dX3_goes_63 ?_
  refine lv_if_ne (tgt := 76) hx hb dX3_goes_64 (by decide) (fun c_64 => ?_) (fun c_64 => ?_)
  · have hbit : wn.testBit A.length = true := by cases hb : wn.testBit A.length with | true => rfl | false => exact absurd ((bit_f (by omega) (by omega)).mpr hb) c_64
    have eqS : solsF (x.2.1 4) a b wn (mm + 1) A = (List.range b.1.length).flatMap (solB (x.2.1 4) a b A (solsF (x.2.1 4) a b wn mm)) := if_pos hbit
    rw [eqS] at g4
    have e0w : nI w = nI (wC true w ((List.range 0).flatMap (solB (x.2.1 4) a b A (solsF (x.2.1 4) a b wn mm))).length) := by rw [show (List.range 0).flatMap (solB (x.2.1 4) a b A (solsF (x.2.1 4) a b wn mm)) = [] from rfl, List.length_nil, wC_0]
    rw [e0w] at hW
    refine lv_iconst (v := 0) hx hb dX3_goes_76 (by decide) ?_
    refine lv_istore_n (lv' := [(3, .int 0), (0, .ref (ad 5)), (1, .int (nI A.length)), (2, .int (nI (mskA A)))]) hx hb dX3_goes_77 rfl hl (by decide) rfl (fun ls hl => ?_)
    have loop_78 : ∀ (nn : Nat) (p : Nat) (fp1 : Int32) (to1 : Nat → Int32) (fi1 : Nat → Int32) (H : Heap) (locs : List Loc) (ls : Array Slot), b.1.length - p < nn → (p ≤ b.1.length) → (∀ i, i < 8 → to1 i = enc (A.getD i none)) → (∀ j, j < 8 → fi1 j = fiF w fi ((List.range p).flatMap (solB (x.2.1 4) a b A (solsF (x.2.1 4) a b wn mm))) j) → pM G (HWl G ad (fdx x (nI (wC true w ((List.range p).flatMap (solB (x.2.1 4) a b A (solsF (x.2.1 4) a b wn mm))).length)) fp1 to1 fi1) ++ T) s H locs → lv_has ls 4 [(0, .ref (ad 5)), (1, .int (nI A.length)), (2, .int (nI (mskA A))), (3, .int (nI p))] → W pp l ee R s m ([.ref (ad 5), .int (nI A.length), .int (nI (mskA A))] : List Value).toArray below meth c H locs 0 0 Q (F0 m 78 ls []) := by
      intro nn
      induction nn with
      | zero => intro p fp1 to1 fi1 H locs ls hm; exact absurd hm (Nat.not_lt_zero _)
      | succ nn ih =>
        intro p fp1 to1 fi1 H locs ls hm hp hto1 hfi1 hW hl
        refine lv_iload_n hx hb dX3_goes_78 rfl (lv_at hl 3 rfl) ?_
        refine lv_aload_n hx hb dX3_goes_79 rfl (lv_at hl 0 rfl) ?_
        refine gH5_in hF hW q216 (v := some pb) (h2) dX3_goes_80 ?_
        refine gt hF hW (ms_r hb1) (ci := 4) rfl in_X10 3 (by decide) q553 rfl (v := .int (nI b.1.length)) rfl dX3_goes_83 ?_
        refine lv_icmp_ge (tgt := 183) hx hb dX3_goes_86 (by decide) (fun c_86 => ?_) (fun c_86 => ?_)
        · exact re_v hF hRt hLk hQ (by omega) (by omega) dX3_goes_183 (nI (wC true w ((List.range p).flatMap (solB (x.2.1 4) a b A (solsF (x.2.1 4) a b wn mm))).length), fp1, to1, fi1) (ways_end eqS (Nat.le_antisymm hp (le_le c_86)) hto1 hfi1) hW
        · have hpl : p < b.1.length := nle_lt c_86
          obtain ⟨rr, hrr⟩ := rng_le (solB (x.2.1 4) a b A (solsF (x.2.1 4) a b wn mm)) (show p + 1 ≤ b.1.length by omega)
          have hlen := congrArg List.length hrr
          rw [List.length_append, rng_s, List.length_append] at hlen
          refine lv_aload_n hx hb dX3_goes_89 rfl (lv_at hl 0 rfl) ?_
          refine gH5_onlyOne hF hW q223 (v := 1) (ho) dX3_goes_90 ?_
          refine lv_if_eq (tgt := 103) hx hb dX3_goes_93 (by decide) (fun c_93 => absurd c_93 (by decide)) (fun c_93 => ?_)
          refine lv_aload_n hx hb dX3_goes_96 rfl (lv_at hl 0 rfl) ?_
          refine gH5_ways hF hW q221 (v := nI (wC true w ((List.range p).flatMap (solB (x.2.1 4) a b A (solsF (x.2.1 4) a b wn mm))).length)) (rfl) dX3_goes_97 ?_
          refine lv_if_gt (tgt := 183) hx hb dX3_goes_100 (by decide) (fun c_100 => ?_) (fun c_100 => ?_)
          · have hgt : 0 < (wC true w ((List.range p).flatMap (solB (x.2.1 4) a b A (solsF (x.2.1 4) a b wn mm))).length) := lt_lt (a := 0) c_100 (by decide) (by unfold wC; simp only [if_true]; split <;> omega)
            exact re_v hF hRt hLk hQ (by omega) (by omega) dX3_goes_183 (nI (wC true w ((List.range p).flatMap (solB (x.2.1 4) a b A (solsF (x.2.1 4) a b wn mm))).length), fp1, to1, fi1) (ways_cut eqS (rng_le (solB (x.2.1 4) a b A (solsF (x.2.1 4) a b wn mm)) hp) hgt hto1 hfi1) hW
          · have hgt : (wC true w ((List.range p).flatMap (solB (x.2.1 4) a b A (solsF (x.2.1 4) a b wn mm))).length) = 0 := by have := nlt_le (a := 0) (b := (wC true w ((List.range p).flatMap (solB (x.2.1 4) a b A (solsF (x.2.1 4) a b wn mm))).length)) c_100 (by decide) (by unfold wC; simp only [if_true]; split <;> omega); omega
            refine lv_iload_n hx hb dX3_goes_103 rfl (lv_at hl 2 rfl) ?_
            refine lv_iload_n hx hb dX3_goes_104 rfl (lv_at hl 3 rfl) ?_
            refine lv_ishr hx hb dX3_goes_105 ?_
            refine lv_iconst (v := 1) hx hb dX3_goes_106 (by decide) ?_
            refine lv_iand hx hb dX3_goes_107 ?_
            refine lv_iconst (v := 1) hx hb dX3_goes_108 (by decide) ?_
            refine lv_icmp_eq (tgt := 177) hx hb dX3_goes_109 (by decide) (fun c_109 => ?_) (fun c_109 => ?_)
            · have hin : some p ∈ A := by have := (bit_t (by omega) (by omega)).mp c_109; rw [msk_bit] at this; exact of_decide_eq_true this
              have hbd : solB (x.2.1 4) a b A (solsF (x.2.1 4) a b wn mm) p = [] := if_pos (Or.inl hin)
              have ew : (wC true w ((List.range p).flatMap (solB (x.2.1 4) a b A (solsF (x.2.1 4) a b wn mm))).length) = wC true w ((List.range (p + 1)).flatMap (solB (x.2.1 4) a b A (solsF (x.2.1 4) a b wn mm))).length := by rw [rng_s, hbd, List.append_nil]
              rw [ew] at hW
              have hW : pM G (HWl G ad (fdx x (nI (wC true w ((List.range (p + 1)).flatMap (solB (x.2.1 4) a b A (solsF (x.2.1 4) a b wn mm))).length)) fp1 to1 fi1) ++ T) s _ _ := hW
              refine lv_iinc (v := nI (p + 1)) (lv' := [(3, .int (nI (p + 1))), (0, .ref (ad 5)), (1, .int (nI A.length)), (2, .int (nI (mskA A)))]) hx hb dX3_goes_177 hl (k := 3) rfl (nI_1 _) (by decide) rfl (fun ls hl => ?_)
              refine lv_goto (tgt := 78) hx hb dX3_goes_180 (by decide) ?_
              exact ih (p + 1) fp1 to1 fi1 H locs ls (by omega) (by omega) (hto1) (fun j hj => by rw [rng_s]; exact (hfi1 j hj).trans (by rw [hbd, List.append_nil])) hW (lv_sub hl [1, 2, 3, 0] rfl)
            · have hin : ¬ some p ∈ A := fun z => c_109 ((bit_t (by omega) (by omega)).mpr (by rw [msk_bit]; exact decide_eq_true z))
              refine lv_aload_n hx hb dX3_goes_112 rfl (lv_at hl 0 rfl) ?_
              refine gH5_this_0 hF hW q224 dX3_goes_113 ?_
              refine lv_aload_n hx hb dX3_goes_116 rfl (lv_at hl 0 rfl) ?_
              refine gH5_in hF hW q216 (v := some pb) (h2) dX3_goes_117 ?_
              refine gt hF hW (ms_r hb1) (ci := 4) rfl in_X10 1 (by decide) q547 rfl (v := .ref awb) rfl dX3_goes_120 ?_
              refine lv_iload_n hx hb dX3_goes_123 rfl (lv_at hl 3 rfl) ?_
              refine al_i hF hW (ms_r hb3) 0 rfl (j := p) (rfl) (by omega) (by decide) dX3_goes_124 ?_
              refine lv_eqv (congrArg Value.int (show wfb p = nI (b.2.1.getD p 0) from hb5.2.1 p hpl)) ?_
              refine lv_aload_n hx hb dX3_goes_125 rfl (lv_at hl 0 rfl) ?_
              refine gH5_what hF hW q215 (v := some pa) (h1) dX3_goes_126 ?_
              refine gt hF hW (ms_r ha1) (ci := 4) rfl in_X10 1 (by decide) q547 rfl (v := .ref awa) rfl dX3_goes_129 ?_
              refine lv_iload_n hx hb dX3_goes_132 rfl (lv_at hl 1 rfl) ?_
              refine al_i hF hW (ms_r ha3) 0 rfl (j := A.length) (rfl) (by omega) (by decide) dX3_goes_133 ?_
              refine lv_eqv (congrArg Value.int (show wfa A.length = nI (a.2.1.getD A.length 0) from ha5.2.1 A.length hkl)) ?_
              have hwb : b.2.1.getD p 0 < nW := hokb.2.2.2.2.1 _ (getD_mem (by rw [hokb.2.1]; exact hpl))
              have hwa : a.2.1.getD A.length 0 < nW := hoka.2.2.2.2.1 _ (getD_mem (by rw [hoka.2.1]; exact hkl))
              refine cl_i (ru_VN (As := [.int (nI (b.2.1.getD p 0)), .int (nI (a.2.1.getD A.length 0))]) (rest := []) hF (mX0_isUnder l G ad (fdx x (nI (wC true w ((List.range p).flatMap (solB (x.2.1 4) a b A (solsF (x.2.1 4) a b wn mm))).length)) fp1 to1 fi1) T (b.2.1.getD p 0) (a.2.1.getD A.length 0) nW hwd hW60 hwb (by omega)) ⟨va_cnB 2 hts (lw_meth q513) rfl rfl rfl (hW.2.2.2.2.2.1 _ (List.mem_of_getElem? (i := 25) rfl)) (hts _ q59) (by decide +kernel) ⟨by rw [hR1]; dsimp only [rmG]; omega, by rw [hR4]; dsimp only [rmG]; omega⟩, hts _ q512, hts _ qs10⟩ hW (List.mem_of_getElem? (i := 0) rfl) (ci := 0) rfl rfl rfl hl.1 rfl (lv_room (Nat.le_of_ble_eq_true rfl)) dX3_goes_134 ⟨by omega, by omega⟩) hW (fun r_1 u_2 H locs h_3 hW => ?_)
              have hW : pM G (HWl G ad (fdx x (nI (wC true w ((List.range p).flatMap (solB (x.2.1 4) a b A (solsF (x.2.1 4) a b wn mm))).length)) fp1 to1 fi1) ++ T) s _ _ := hW
              rcases h_3 with ⟨rfl, b_134⟩ | ⟨rfl, b_134⟩
              · refine lv_if_ne (tgt := 143) hx hb dX3_goes_137 (by decide) (fun c_137 => ?_) (fun c_137 => absurd c_137 (by decide))
                refine lv_aload_n hx hb dX3_goes_143 rfl (lv_at hl 0 rfl) ?_
                refine gH5_to hF hW q218 dX3_goes_144 ?_
                refine lv_iload_n hx hb dX3_goes_147 rfl (lv_at hl 1 rfl) ?_
                refine lv_iload_n hx hb dX3_goes_148 rfl (lv_at hl 3 rfl) ?_
                refine sH6 hF hW (j := A.length) (rfl) (by omega) dX3_goes_149 (fun H locs hW => ?_)
                have hW : pM G (HWl G ad (xa (fdx x (nI (wC true w ((List.range p).flatMap (solB (x.2.1 4) a b A (solsF (x.2.1 4) a b wn mm))).length)) fp1 to1 fi1) 2 (va_up ((fdx x (nI (wC true w ((List.range p).flatMap (solB (x.2.1 4) a b A (solsF (x.2.1 4) a b wn mm))).length)) fp1 to1 fi1).2.1 2) A.length (nI p))) ++ T) s _ _ := hW
                refine lv_aload_n hx hb dX3_goes_150 rfl (lv_at hl 0 rfl) ?_
                refine lv_iload_n hx hb dX3_goes_151 rfl (lv_at hl 1 rfl) ?_
                refine cl_i (ru_V (As := [.int (nI A.length)]) (rest := []) hF (mX3_isLinked l G ad (xa (fdx x (nI (wC true w ((List.range p).flatMap (solB (x.2.1 4) a b A (solsF (x.2.1 4) a b wn mm))).length)) fp1 to1 fi1) 2 (va_up ((fdx x (nI (wC true w ((List.range p).flatMap (solB (x.2.1 4) a b A (solsF (x.2.1 4) a b wn mm))).length)) fp1 to1 fi1).2.1 2) A.length (nI p))) T pa pb a b ha9 hb9 h1 h2 nW hwd hW60 hoka hokb (A ++ [some p]) (toA hto1) (A8 g2 (by omega)) A.length (by omega)) (cwV 1 hts (lw_V q760 q762 qs20 q65 q763) rfl rfl rfl (by decide +kernel) ⟨by rw [hR1]; dsimp only [rmG]; omega, by rw [hR4]; dsimp only [rmG]; omega⟩) hW (List.mem_of_getElem? (i := 5) rfl) (ci := 3) rfl rfl rfl hl.1 rfl (lv_room (Nat.le_of_ble_eq_true rfl)) dX3_goes_152 ⟨by omega, by omega⟩) hW (fun r_4 u_5 H locs h_6 hW => ?_)
                have hW : pM G (HWl G ad (xa (fdx x (nI (wC true w ((List.range p).flatMap (solB (x.2.1 4) a b A (solsF (x.2.1 4) a b wn mm))).length)) fp1 to1 fi1) 2 (va_up ((fdx x (nI (wC true w ((List.range p).flatMap (solB (x.2.1 4) a b A (solsF (x.2.1 4) a b wn mm))).length)) fp1 to1 fi1).2.1 2) A.length (nI p))) ++ T) s _ _ := hW
                rcases h_6 with ⟨rfl, b_152⟩ | ⟨rfl, b_152⟩
                · refine lv_if_eq (tgt := 170) hx hb dX3_goes_155 (by decide) (fun c_155 => absurd c_155 (by decide)) (fun c_155 => ?_)
                  refine lv_aload_n hx hb dX3_goes_158 rfl (lv_at hl 0 rfl) ?_
                  refine lv_iload_n hx hb dX3_goes_159 rfl (lv_at hl 1 rfl) ?_
                  refine lv_iconst (v := 1) hx hb dX3_goes_160 (by decide) ?_
                  refine lv_iadd hx hb dX3_goes_161 ?_
                  refine lv_eqi (show (nI A.length) + 1 = nI (A.length + 1) from nI_add A.length 1) ?_
                  refine lv_iload_n hx hb dX3_goes_162 rfl (lv_at hl 2 rfl) ?_
                  refine lv_iconst (v := 1) hx hb dX3_goes_163 (by decide) ?_
                  refine lv_iload_n hx hb dX3_goes_164 rfl (lv_at hl 3 rfl) ?_
                  refine lv_ishl hx hb dX3_goes_165 ?_
                  refine lv_eqi (show 1 <<< ((nI p) &&& 31) = nI (2 ^ p) from one_shl p (by omega)) ?_
                  refine lv_ior hx hb dX3_goes_166 ?_
                  refine lv_eqi (show (nI (mskA A)) ||| (nI (2 ^ p)) = nI (mskA (A ++ [some p])) from (nI_or _ _).trans (by rw [msk_app])) ?_
                  have hbd : solB (x.2.1 4) a b A (solsF (x.2.1 4) a b wn mm) p = solsF (x.2.1 4) a b wn mm (A ++ [some p]) := sol_yes hin b_134 b_152
                  have eL : A.length + 1 = (A ++ [some p]).length := by rw [List.length_append]; rfl
                  rw [eL]
                  refine cl_v (ru_V (mc := 0) (ms := 0) (As := [.int (nI (A ++ [some p]).length), .int (nI (mskA (A ++ [some p])))]) (rest := []) hF (hrec (A ++ [some p]) (wC true w ((List.range p).flatMap (solB (x.2.1 4) a b A (solsF (x.2.1 4) a b wn mm))).length) fp1 (va_up to1 A.length (nI p)) fi1 (by rw [← eL]; omega) (toA hto1) (A8 g2 (by omega)) (fun _ => hgt) (by rw [← hbd]; unfold wC; simp only [if_true, if_false, Bool.false_eq_true]; split <;> omega)) (cwV 2 hts (lw_V q754 q756 qs19 q65 q757) rfl rfl rfl (by decide +kernel) ⟨by rw [hR1]; dsimp only [rmG]; omega, by rw [hR4]; dsimp only [rmG]; omega⟩) hW (List.mem_of_getElem? (i := 5) rfl) (ci := 3) rfl rfl rfl hl.1 rfl (lv_room (Nat.le_of_ble_eq_true rfl)) dX3_goes_167 ⟨by omega, by omega⟩) hW (fun u_ H locs h_ hW => ?_)
                  obtain ⟨w2, fp2, to2, fi2⟩ := u_
                  obtain ⟨r1, r2, r3⟩ := h_
                  have r1 : w2 = _ := r1
                  subst r1
                  have hW : pM G (HWl G ad (fdx x (nI (wC true (wC true w ((List.range p).flatMap (solB (x.2.1 4) a b A (solsF (x.2.1 4) a b wn mm))).length) (solsF (x.2.1 4) a b wn mm (A ++ [some p])).length)) fp2 to2 fi2) ++ T) s _ _ := hW
                  refine lv_aload_n hx hb dX3_goes_170 rfl (lv_at hl 0 rfl) ?_
                  refine gH5_to hF hW q218 dX3_goes_171 ?_
                  refine lv_iload_n hx hb dX3_goes_174 rfl (lv_at hl 1 rfl) ?_
                  refine lv_iconst (v := (-1)) hx hb dX3_goes_175 (by decide) ?_
                  refine sH6 hF hW (j := A.length) (rfl) (by omega) dX3_goes_176 (fun H locs hW => ?_)
                  have hW : pM G (HWl G ad (xa (fdx x (nI (wC true (wC true w ((List.range p).flatMap (solB (x.2.1 4) a b A (solsF (x.2.1 4) a b wn mm))).length) (solsF (x.2.1 4) a b wn mm (A ++ [some p])).length)) fp2 to2 fi2) 2 (va_up ((fdx x (nI (wC true (wC true w ((List.range p).flatMap (solB (x.2.1 4) a b A (solsF (x.2.1 4) a b wn mm))).length) (solsF (x.2.1 4) a b wn mm (A ++ [some p])).length)) fp2 to2 fi2).2.1 2) A.length (-1))) ++ T) s _ _ := hW
                  have ew : wC true (wC true w ((List.range p).flatMap (solB (x.2.1 4) a b A (solsF (x.2.1 4) a b wn mm))).length) (solsF (x.2.1 4) a b wn mm (A ++ [some p])).length = wC true w ((List.range (p + 1)).flatMap (solB (x.2.1 4) a b A (solsF (x.2.1 4) a b wn mm))).length := by rw [wC_add, rng_s, List.length_append, hbd]
                  rw [ew] at hW
                  have hW : pM G (HWl G ad (fdx x (nI (wC true w ((List.range (p + 1)).flatMap (solB (x.2.1 4) a b A (solsF (x.2.1 4) a b wn mm))).length)) fp2 (va_up to2 A.length (-1)) fi2) ++ T) s _ _ := hW
                  refine lv_iinc (v := nI (p + 1)) (lv' := [(3, .int (nI (p + 1))), (0, .ref (ad 5)), (1, .int (nI A.length)), (2, .int (nI (mskA A)))]) hx hb dX3_goes_177 hl (k := 3) rfl (nI_1 _) (by decide) rfl (fun ls hl => ?_)
                  refine lv_goto (tgt := 78) hx hb dX3_goes_180 (by decide) ?_
                  exact W.widen (by omega) (by omega) (ih (p + 1) fp2 (va_up to2 A.length (-1)) fi2 H locs ls (by omega) (by omega) (toB r2) (fun j hj => by rw [rng_s]; exact (r3 j hj).trans (by rw [hbd]; exact fiF_app (hfi1 j hj))) hW (lv_sub hl [1, 2, 3, 0] rfl))
                · refine lv_if_eq (tgt := 170) hx hb dX3_goes_155 (by decide) (fun c_155 => ?_) (fun c_155 => absurd c_155 (by decide))
                  have hbd : solB (x.2.1 4) a b A (solsF (x.2.1 4) a b wn mm) p = [] := if_pos (Or.inr (Or.inr b_152))
                  refine lv_aload_n hx hb dX3_goes_170 rfl (lv_at hl 0 rfl) ?_
                  refine gH5_to hF hW q218 dX3_goes_171 ?_
                  refine lv_iload_n hx hb dX3_goes_174 rfl (lv_at hl 1 rfl) ?_
                  refine lv_iconst (v := (-1)) hx hb dX3_goes_175 (by decide) ?_
                  refine sH6 hF hW (j := A.length) (rfl) (by omega) dX3_goes_176 (fun H locs hW => ?_)
                  have hW : pM G (HWl G ad (xa (fdx x (nI (wC true w ((List.range p).flatMap (solB (x.2.1 4) a b A (solsF (x.2.1 4) a b wn mm))).length)) fp1 to1 fi1) 2 (va_up (va_up ((fdx x (nI (wC true w ((List.range p).flatMap (solB (x.2.1 4) a b A (solsF (x.2.1 4) a b wn mm))).length)) fp1 to1 fi1).2.1 2) A.length (nI p)) A.length (-1))) ++ T) s _ _ := hW
                  have ew : (wC true w ((List.range p).flatMap (solB (x.2.1 4) a b A (solsF (x.2.1 4) a b wn mm))).length) = wC true w ((List.range (p + 1)).flatMap (solB (x.2.1 4) a b A (solsF (x.2.1 4) a b wn mm))).length := by rw [rng_s, hbd, List.append_nil]
                  rw [ew] at hW
                  have hW : pM G (HWl G ad (fdx x (nI (wC true w ((List.range (p + 1)).flatMap (solB (x.2.1 4) a b A (solsF (x.2.1 4) a b wn mm))).length)) fp1 (va_up (va_up to1 A.length (nI p)) A.length (-1)) fi1) ++ T) s _ _ := hW
                  refine lv_iinc (v := nI (p + 1)) (lv' := [(3, .int (nI (p + 1))), (0, .ref (ad 5)), (1, .int (nI A.length)), (2, .int (nI (mskA A)))]) hx hb dX3_goes_177 hl (k := 3) rfl (nI_1 _) (by decide) rfl (fun ls hl => ?_)
                  refine lv_goto (tgt := 78) hx hb dX3_goes_180 (by decide) ?_
                  exact W.widen (by omega) (by omega) (ih (p + 1) fp1 (va_up (va_up to1 A.length (nI p)) A.length (-1)) fi1 H locs ls (by omega) (by omega) (toB (toA hto1)) (fun j hj => by rw [rng_s]; exact (hfi1 j hj).trans (by rw [hbd, List.append_nil])) hW (lv_sub hl [1, 2, 3, 0] rfl))
              · refine lv_if_ne (tgt := 143) hx hb dX3_goes_137 (by decide) (fun c_137 => absurd c_137 (by decide)) (fun c_137 => ?_)
                have hbd : solB (x.2.1 4) a b A (solsF (x.2.1 4) a b wn mm) p = [] := if_pos (Or.inr (Or.inl b_134))
                refine lv_goto (tgt := 177) hx hb dX3_goes_140 (by decide) ?_
                have ew : (wC true w ((List.range p).flatMap (solB (x.2.1 4) a b A (solsF (x.2.1 4) a b wn mm))).length) = wC true w ((List.range (p + 1)).flatMap (solB (x.2.1 4) a b A (solsF (x.2.1 4) a b wn mm))).length := by rw [rng_s, hbd, List.append_nil]
                rw [ew] at hW
                have hW : pM G (HWl G ad (fdx x (nI (wC true w ((List.range (p + 1)).flatMap (solB (x.2.1 4) a b A (solsF (x.2.1 4) a b wn mm))).length)) fp1 to1 fi1) ++ T) s _ _ := hW
                refine lv_iinc (v := nI (p + 1)) (lv' := [(3, .int (nI (p + 1))), (0, .ref (ad 5)), (1, .int (nI A.length)), (2, .int (nI (mskA A)))]) hx hb dX3_goes_177 hl (k := 3) rfl (nI_1 _) (by decide) rfl (fun ls hl => ?_)
                refine lv_goto (tgt := 78) hx hb dX3_goes_180 (by decide) ?_
                exact W.widen (by omega) (by omega) (ih (p + 1) fp1 to1 fi1 H locs ls (by omega) (by omega) (hto1) (fun j hj => by rw [rng_s]; exact (hfi1 j hj).trans (by rw [hbd, List.append_nil])) hW (lv_sub hl [1, 2, 3, 0] rfl))
    exact loop_78 _ 0 fp to fi _ _ _ (Nat.lt_succ_self _) (Nat.zero_le _) (g1) (fun j _ => (fi_nil w fi j).symm) hW (lv_sub hl [1, 2, 3, 0] rfl)
  · have hbit : ¬ wn.testBit A.length = true := by rw [(bit_f (by omega) (by omega)).mp c_64]; decide
    refine lv_aload_n hx hb dX3_goes_67 rfl (lv_at hl 0 rfl) ?_
    refine lv_iload_n hx hb dX3_goes_68 rfl (lv_at hl 1 rfl) ?_
    refine lv_iconst (v := 1) hx hb dX3_goes_69 (by decide) ?_
    refine lv_iadd hx hb dX3_goes_70 ?_
    refine lv_eqi (show (nI A.length) + 1 = nI (A ++ [none]).length from (nI_1 _).trans (by rw [List.length_append]; rfl)) ?_
    refine lv_iload_n hx hb dX3_goes_71 rfl (lv_at hl 2 rfl) ?_
    refine lv_eqi (show nI (mskA A) = nI (mskA (A ++ [none])) from by rw [msk_non]) ?_
    have eqS : solsF (x.2.1 4) a b wn (mm + 1) A = solsF (x.2.1 4) a b wn mm (A ++ [none]) := if_neg hbit
    have eL : A.length + 1 = (A ++ [none]).length := by rw [List.length_append]; rfl
    refine cl_v (ru_V (mc := 0) (ms := 0) (As := [.int (nI (A ++ [none]).length), .int (nI (mskA (A ++ [none])))]) (rest := []) hF (hrec (A ++ [none]) w fp to fi (by rw [← eL]; omega) (toN g1) (A8n g2) (g3) (by rw [← eqS]; exact g4)) (cwV 2 hts (lw_V q754 q756 qs19 q65 q757) rfl rfl rfl (by decide +kernel) ⟨by rw [hR1]; dsimp only [rmG]; omega, by rw [hR4]; dsimp only [rmG]; omega⟩) hW (List.mem_of_getElem? (i := 5) rfl) (ci := 3) rfl rfl rfl hl.1 rfl (lv_room (Nat.le_of_ble_eq_true rfl)) dX3_goes_72 ⟨by omega, by omega⟩) hW (fun u_ H locs h_ hW => ?_)
    obtain ⟨w2, fp2, to2, fi2⟩ := u_
    obtain ⟨r1, r2, r3⟩ := h_
    have r1 : w2 = _ := r1
    subst r1
    have hW : pM G (HWl G ad (fdx x (nI (wC true w (solsF (x.2.1 4) a b wn mm (A ++ [none])).length)) fp2 to2 fi2) ++ T) s _ _ := hW
    exact re_v hF hRt hLk hQ (by omega) (by omega) dX3_goes_75 (nI (wC true w (solsF (x.2.1 4) a b wn mm (A ++ [none])).length), fp2, to2, fi2) (by rw [eqS]; exact ⟨rfl, toM r2, r3⟩) hW

set_option maxRecDepth 100000 in
set_option maxHeartbeats 16000000 in
theorem mX3_goesS_false (l : Launch) (G : pG) (ad : Nat → Nat) (x : XV) (T : va_W) (pa pb : Nat) (a b : Tx) (ha9 : HT G T pa a) (hb9 : HT G T pb b) (h1 : x.2.2.2.1 1 = some pa) (h2 : x.2.2.2.1 2 = some pb) (nW : Nat) (hwd : WdOk (x.2.1 4) nW) (hW60 : nW ≤ 60) (hoka : TxOk nW 8 10 a) (hokb : TxOk nW 8 10 b) (wn : Nat) (hwn : wn < 256) (hwn2 : x.1 21 = nI wn) (ho : x.1 24 = 0) (mm : Nat) (hrec : ∀ (A1 : List (Option Nat)) (w1 : Nat) (fp1 : Int32) (to1 fi1 : Nat → Int32), (A1.length + mm = a.1.length) → (∀ i, i < 8 → to1 i = enc (A1.getD i none)) → (∀ i p, A1.getD i none = some p → p < 8) → (false = true → w1 = 0) → (w1 + (solsF (x.2.1 4) a b wn mm A1).length < 2147483648) → Met l yX3_goes (ws_ yX3_goes cX3_goes 4 none) (rmG mm) (va_Pc [.ref (ad 5), .int (nI A1.length), .int (nI (mskA A1))] (fun U => pW G (HWl G ad (fdx x (nI w1) fp1 to1 fi1) ++ T) U)) (va_Qv (fun (u : FS) => u.1 = nI (wC false w1 (solsF (x.2.1 4) a b wn mm A1).length) ∧ (∀ j, j < 8 → u.2.2.1 j = enc (A1.getD j none)) ∧ (∀ j, j < 8 → u.2.2.2 j = fiF w1 fi1 (solsF (x.2.1 4) a b wn mm A1) j)) (fun (u : FS) t9 => pW G (HWl G ad (fdx x u.1 u.2.1 u.2.2.1 u.2.2.2) ++ T) t9) (pA G)) 0 0 (pA G)) (A : List (Option Nat)) (w : Nat) (fp : Int32) (to fi : Nat → Int32) (g0 : A.length + (mm + 1) = a.1.length) (g1 : ∀ i, i < 8 → to i = enc (A.getD i none)) (g2 : ∀ i p, A.getD i none = some p → p < 8) (g3 : false = true → w = 0) (g4 : w + (solsF (x.2.1 4) a b wn (mm + 1) A).length < 2147483648) : Met l yX3_goes (ws_ yX3_goes cX3_goes 4 none) (rmG (mm + 1)) (va_Pc [.ref (ad 5), .int (nI A.length), .int (nI (mskA A))] (fun U => pW G (HWl G ad (fdx x (nI w) fp to fi) ++ T) U)) (va_Qv (fun (u : FS) => u.1 = nI (wC false w (solsF (x.2.1 4) a b wn (mm + 1) A).length) ∧ (∀ j, j < 8 → u.2.2.1 j = enc (A.getD j none)) ∧ (∀ j, j < 8 → u.2.2.2 j = fiF w fi (solsF (x.2.1 4) a b wn (mm + 1) A) j)) (fun (u : FS) t9 => pW G (HWl G ad (fdx x u.1 u.2.1 u.2.2.1 u.2.2.2) ++ T) t9) (pA G)) 0 0 (pA G) := by
  refine mw (by decide) (Nat.le_of_ble_eq_true rfl) ?_
  intro pp ee R s m below meth c ls Q hF hRt hLk hnm hR hQ hW hl
  have hx := hF.1
  have hb := hF.2.1
  have hts := hF.2.2.2.2
  have hR1 : R.frames = mm + 1 + 5 := by subst hR; rfl
  have hR2 : R.cells = 0 := by subst hR; rfl
  have hR3 : R.slots = 0 := by subst hR; rfl
  have hR4 : R.locals = 60 * (mm + 1) + 200 := by subst hR; rfl
  have hl : lv_has ls 4 [(0, .ref (ad 5)), (1, .int (nI A.length)), (2, .int (nI (mskA A)))] := hl
  have hW : pM G (HWl G ad (fdx x (nI w) fp to fi) ++ T) s s.heap [] := hW
  obtain ⟨ana, awa, ala, nfa, lfa, wfa, ha1, ha2, ha3, ha4, ha5⟩ := (id ha9)
  obtain ⟨anb, awb, alb, nfb, lfb, wfb, hb1, hb2, hb3, hb4, hb5⟩ := (id hb9)
  have ha8 := hoka.2.2.1
  have hb8 := hokb.2.2.1
  have hkl : A.length < a.1.length := by omega
  have hm8 := msk_lt g2
  refine lv_iload_n hx hb dX3_goes_0 rfl (lv_at hl 1 rfl) ?_
  refine lv_aload_n hx hb dX3_goes_1 rfl (lv_at hl 0 rfl) ?_
  refine gH5_what hF hW q215 (v := some pa) (h1) dX3_goes_2 ?_
  refine gt hF hW (ms_r ha1) (ci := 4) rfl in_X10 3 (by decide) q553 rfl (v := .int (nI a.1.length)) rfl dX3_goes_5 ?_
  refine lv_icmp_ne (tgt := 56) hx hb dX3_goes_8 (by decide) (fun c_8 => ?_) (fun c_8 => absurd c_8 (fun z => by have := eq_eq z; omega))
  refine lv_aload_n hx hb dX3_goes_56 rfl (lv_at hl 0 rfl) ?_
  refine gH5_wanted hF hW q217 (v := nI wn) (hwn2) dX3_goes_57 ?_
  refine lv_iload_n hx hb dX3_goes_60 rfl (lv_at hl 1 rfl) ?_
  refine lv_ishr hx hb dX3_goes_61 ?_
  refine lv_iconst (v := 1) hx hb dX3_goes_62 (by decide) ?_
  refine lv_iand hx hb dX3_goes_63 ?_
  refine lv_if_ne (tgt := 76) hx hb dX3_goes_64 (by decide) (fun c_64 => ?_) (fun c_64 => ?_)
  · have hbit : wn.testBit A.length = true := by cases hb : wn.testBit A.length with | true => rfl | false => exact absurd ((bit_f (by omega) (by omega)).mpr hb) c_64
    have eqS : solsF (x.2.1 4) a b wn (mm + 1) A = (List.range b.1.length).flatMap (solB (x.2.1 4) a b A (solsF (x.2.1 4) a b wn mm)) := if_pos hbit
    rw [eqS] at g4
    have e0w : nI w = nI (wC false w ((List.range 0).flatMap (solB (x.2.1 4) a b A (solsF (x.2.1 4) a b wn mm))).length) := by rw [show (List.range 0).flatMap (solB (x.2.1 4) a b A (solsF (x.2.1 4) a b wn mm)) = [] from rfl, List.length_nil, wC_0]
    rw [e0w] at hW
    refine lv_iconst (v := 0) hx hb dX3_goes_76 (by decide) ?_
    refine lv_istore_n (lv' := [(3, .int 0), (0, .ref (ad 5)), (1, .int (nI A.length)), (2, .int (nI (mskA A)))]) hx hb dX3_goes_77 rfl hl (by decide) rfl (fun ls hl => ?_)
    have loop_78 : ∀ (nn : Nat) (p : Nat) (fp1 : Int32) (to1 : Nat → Int32) (fi1 : Nat → Int32) (H : Heap) (locs : List Loc) (ls : Array Slot), b.1.length - p < nn → (p ≤ b.1.length) → (∀ i, i < 8 → to1 i = enc (A.getD i none)) → (∀ j, j < 8 → fi1 j = fiF w fi ((List.range p).flatMap (solB (x.2.1 4) a b A (solsF (x.2.1 4) a b wn mm))) j) → pM G (HWl G ad (fdx x (nI (wC false w ((List.range p).flatMap (solB (x.2.1 4) a b A (solsF (x.2.1 4) a b wn mm))).length)) fp1 to1 fi1) ++ T) s H locs → lv_has ls 4 [(0, .ref (ad 5)), (1, .int (nI A.length)), (2, .int (nI (mskA A))), (3, .int (nI p))] → W pp l ee R s m ([.ref (ad 5), .int (nI A.length), .int (nI (mskA A))] : List Value).toArray below meth c H locs 0 0 Q (F0 m 78 ls []) := by
      intro nn
      induction nn with
      | zero => intro p fp1 to1 fi1 H locs ls hm; exact absurd hm (Nat.not_lt_zero _)
      | succ nn ih =>
        intro p fp1 to1 fi1 H locs ls hm hp hto1 hfi1 hW hl
        refine lv_iload_n hx hb dX3_goes_78 rfl (lv_at hl 3 rfl) ?_
        refine lv_aload_n hx hb dX3_goes_79 rfl (lv_at hl 0 rfl) ?_
        refine gH5_in hF hW q216 (v := some pb) (h2) dX3_goes_80 ?_
        refine gt hF hW (ms_r hb1) (ci := 4) rfl in_X10 3 (by decide) q553 rfl (v := .int (nI b.1.length)) rfl dX3_goes_83 ?_
        refine lv_icmp_ge (tgt := 183) hx hb dX3_goes_86 (by decide) (fun c_86 => ?_) (fun c_86 => ?_)
        · exact re_v hF hRt hLk hQ (by omega) (by omega) dX3_goes_183 (nI (wC false w ((List.range p).flatMap (solB (x.2.1 4) a b A (solsF (x.2.1 4) a b wn mm))).length), fp1, to1, fi1) (ways_end eqS (Nat.le_antisymm hp (le_le c_86)) hto1 hfi1) hW
        · have hpl : p < b.1.length := nle_lt c_86
          obtain ⟨rr, hrr⟩ := rng_le (solB (x.2.1 4) a b A (solsF (x.2.1 4) a b wn mm)) (show p + 1 ≤ b.1.length by omega)
          have hlen := congrArg List.length hrr
          rw [List.length_append, rng_s, List.length_append] at hlen
          refine lv_aload_n hx hb dX3_goes_89 rfl (lv_at hl 0 rfl) ?_
          refine gH5_onlyOne hF hW q223 (v := 0) (ho) dX3_goes_90 ?_
          refine lv_if_eq (tgt := 103) hx hb dX3_goes_93 (by decide) (fun c_93 => ?_) (fun c_93 => absurd c_93 (by decide))
          refine lv_iload_n hx hb dX3_goes_103 rfl (lv_at hl 2 rfl) ?_
          refine lv_iload_n hx hb dX3_goes_104 rfl (lv_at hl 3 rfl) ?_
          refine lv_ishr hx hb dX3_goes_105 ?_
          refine lv_iconst (v := 1) hx hb dX3_goes_106 (by decide) ?_
          refine lv_iand hx hb dX3_goes_107 ?_
          refine lv_iconst (v := 1) hx hb dX3_goes_108 (by decide) ?_
          refine lv_icmp_eq (tgt := 177) hx hb dX3_goes_109 (by decide) (fun c_109 => ?_) (fun c_109 => ?_)
          · have hin : some p ∈ A := by have := (bit_t (by omega) (by omega)).mp c_109; rw [msk_bit] at this; exact of_decide_eq_true this
            have hbd : solB (x.2.1 4) a b A (solsF (x.2.1 4) a b wn mm) p = [] := if_pos (Or.inl hin)
            have ew : (wC false w ((List.range p).flatMap (solB (x.2.1 4) a b A (solsF (x.2.1 4) a b wn mm))).length) = wC false w ((List.range (p + 1)).flatMap (solB (x.2.1 4) a b A (solsF (x.2.1 4) a b wn mm))).length := by rw [rng_s, hbd, List.append_nil]
            rw [ew] at hW
            have hW : pM G (HWl G ad (fdx x (nI (wC false w ((List.range (p + 1)).flatMap (solB (x.2.1 4) a b A (solsF (x.2.1 4) a b wn mm))).length)) fp1 to1 fi1) ++ T) s _ _ := hW
            refine lv_iinc (v := nI (p + 1)) (lv' := [(3, .int (nI (p + 1))), (0, .ref (ad 5)), (1, .int (nI A.length)), (2, .int (nI (mskA A)))]) hx hb dX3_goes_177 hl (k := 3) rfl (nI_1 _) (by decide) rfl (fun ls hl => ?_)
            refine lv_goto (tgt := 78) hx hb dX3_goes_180 (by decide) ?_
            exact ih (p + 1) fp1 to1 fi1 H locs ls (by omega) (by omega) (hto1) (fun j hj => by rw [rng_s]; exact (hfi1 j hj).trans (by rw [hbd, List.append_nil])) hW (lv_sub hl [1, 2, 3, 0] rfl)
          · have hin : ¬ some p ∈ A := fun z => c_109 ((bit_t (by omega) (by omega)).mpr (by rw [msk_bit]; exact decide_eq_true z))
            refine lv_aload_n hx hb dX3_goes_112 rfl (lv_at hl 0 rfl) ?_
            refine gH5_this_0 hF hW q224 dX3_goes_113 ?_
            refine lv_aload_n hx hb dX3_goes_116 rfl (lv_at hl 0 rfl) ?_
            refine gH5_in hF hW q216 (v := some pb) (h2) dX3_goes_117 ?_
            refine gt hF hW (ms_r hb1) (ci := 4) rfl in_X10 1 (by decide) q547 rfl (v := .ref awb) rfl dX3_goes_120 ?_
            refine lv_iload_n hx hb dX3_goes_123 rfl (lv_at hl 3 rfl) ?_
            refine al_i hF hW (ms_r hb3) 0 rfl (j := p) (rfl) (by omega) (by decide) dX3_goes_124 ?_
            refine lv_eqv (congrArg Value.int (show wfb p = nI (b.2.1.getD p 0) from hb5.2.1 p hpl)) ?_
            refine lv_aload_n hx hb dX3_goes_125 rfl (lv_at hl 0 rfl) ?_
            refine gH5_what hF hW q215 (v := some pa) (h1) dX3_goes_126 ?_
            refine gt hF hW (ms_r ha1) (ci := 4) rfl in_X10 1 (by decide) q547 rfl (v := .ref awa) rfl dX3_goes_129 ?_
            refine lv_iload_n hx hb dX3_goes_132 rfl (lv_at hl 1 rfl) ?_
            refine al_i hF hW (ms_r ha3) 0 rfl (j := A.length) (rfl) (by omega) (by decide) dX3_goes_133 ?_
            refine lv_eqv (congrArg Value.int (show wfa A.length = nI (a.2.1.getD A.length 0) from ha5.2.1 A.length hkl)) ?_
            have hwb : b.2.1.getD p 0 < nW := hokb.2.2.2.2.1 _ (getD_mem (by rw [hokb.2.1]; exact hpl))
            have hwa : a.2.1.getD A.length 0 < nW := hoka.2.2.2.2.1 _ (getD_mem (by rw [hoka.2.1]; exact hkl))
            refine cl_i (ru_VN (As := [.int (nI (b.2.1.getD p 0)), .int (nI (a.2.1.getD A.length 0))]) (rest := []) hF (mX0_isUnder l G ad (fdx x (nI (wC false w ((List.range p).flatMap (solB (x.2.1 4) a b A (solsF (x.2.1 4) a b wn mm))).length)) fp1 to1 fi1) T (b.2.1.getD p 0) (a.2.1.getD A.length 0) nW hwd hW60 hwb (by omega)) ⟨va_cnB 2 hts (lw_meth q513) rfl rfl rfl (hW.2.2.2.2.2.1 _ (List.mem_of_getElem? (i := 25) rfl)) (hts _ q59) (by decide +kernel) ⟨by rw [hR1]; dsimp only [rmG]; omega, by rw [hR4]; dsimp only [rmG]; omega⟩, hts _ q512, hts _ qs10⟩ hW (List.mem_of_getElem? (i := 0) rfl) (ci := 0) rfl rfl rfl hl.1 rfl (lv_room (Nat.le_of_ble_eq_true rfl)) dX3_goes_134 ⟨by omega, by omega⟩) hW (fun r_1 u_2 H locs h_3 hW => ?_)
            have hW : pM G (HWl G ad (fdx x (nI (wC false w ((List.range p).flatMap (solB (x.2.1 4) a b A (solsF (x.2.1 4) a b wn mm))).length)) fp1 to1 fi1) ++ T) s _ _ := hW
            rcases h_3 with ⟨rfl, b_134⟩ | ⟨rfl, b_134⟩
            · refine lv_if_ne (tgt := 143) hx hb dX3_goes_137 (by decide) (fun c_137 => ?_) (fun c_137 => absurd c_137 (by decide))
              refine lv_aload_n hx hb dX3_goes_143 rfl (lv_at hl 0 rfl) ?_
              refine gH5_to hF hW q218 dX3_goes_144 ?_
              refine lv_iload_n hx hb dX3_goes_147 rfl (lv_at hl 1 rfl) ?_
              refine lv_iload_n hx hb dX3_goes_148 rfl (lv_at hl 3 rfl) ?_
              refine sH6 hF hW (j := A.length) (rfl) (by omega) dX3_goes_149 (fun H locs hW => ?_)
              have hW : pM G (HWl G ad (xa (fdx x (nI (wC false w ((List.range p).flatMap (solB (x.2.1 4) a b A (solsF (x.2.1 4) a b wn mm))).length)) fp1 to1 fi1) 2 (va_up ((fdx x (nI (wC false w ((List.range p).flatMap (solB (x.2.1 4) a b A (solsF (x.2.1 4) a b wn mm))).length)) fp1 to1 fi1).2.1 2) A.length (nI p))) ++ T) s _ _ := hW
              refine lv_aload_n hx hb dX3_goes_150 rfl (lv_at hl 0 rfl) ?_
              refine lv_iload_n hx hb dX3_goes_151 rfl (lv_at hl 1 rfl) ?_
              refine cl_i (ru_V (As := [.int (nI A.length)]) (rest := []) hF (mX3_isLinked l G ad (xa (fdx x (nI (wC false w ((List.range p).flatMap (solB (x.2.1 4) a b A (solsF (x.2.1 4) a b wn mm))).length)) fp1 to1 fi1) 2 (va_up ((fdx x (nI (wC false w ((List.range p).flatMap (solB (x.2.1 4) a b A (solsF (x.2.1 4) a b wn mm))).length)) fp1 to1 fi1).2.1 2) A.length (nI p))) T pa pb a b ha9 hb9 h1 h2 nW hwd hW60 hoka hokb (A ++ [some p]) (toA hto1) (A8 g2 (by omega)) A.length (by omega)) (cwV 1 hts (lw_V q760 q762 qs20 q65 q763) rfl rfl rfl (by decide +kernel) ⟨by rw [hR1]; dsimp only [rmG]; omega, by rw [hR4]; dsimp only [rmG]; omega⟩) hW (List.mem_of_getElem? (i := 5) rfl) (ci := 3) rfl rfl rfl hl.1 rfl (lv_room (Nat.le_of_ble_eq_true rfl)) dX3_goes_152 ⟨by omega, by omega⟩) hW (fun r_4 u_5 H locs h_6 hW => ?_)
              have hW : pM G (HWl G ad (xa (fdx x (nI (wC false w ((List.range p).flatMap (solB (x.2.1 4) a b A (solsF (x.2.1 4) a b wn mm))).length)) fp1 to1 fi1) 2 (va_up ((fdx x (nI (wC false w ((List.range p).flatMap (solB (x.2.1 4) a b A (solsF (x.2.1 4) a b wn mm))).length)) fp1 to1 fi1).2.1 2) A.length (nI p))) ++ T) s _ _ := hW
              rcases h_6 with ⟨rfl, b_152⟩ | ⟨rfl, b_152⟩
              · refine lv_if_eq (tgt := 170) hx hb dX3_goes_155 (by decide) (fun c_155 => absurd c_155 (by decide)) (fun c_155 => ?_)
                refine lv_aload_n hx hb dX3_goes_158 rfl (lv_at hl 0 rfl) ?_
                refine lv_iload_n hx hb dX3_goes_159 rfl (lv_at hl 1 rfl) ?_
                refine lv_iconst (v := 1) hx hb dX3_goes_160 (by decide) ?_
                refine lv_iadd hx hb dX3_goes_161 ?_
                refine lv_eqi (show (nI A.length) + 1 = nI (A.length + 1) from nI_add A.length 1) ?_
                refine lv_iload_n hx hb dX3_goes_162 rfl (lv_at hl 2 rfl) ?_
                refine lv_iconst (v := 1) hx hb dX3_goes_163 (by decide) ?_
                refine lv_iload_n hx hb dX3_goes_164 rfl (lv_at hl 3 rfl) ?_
                refine lv_ishl hx hb dX3_goes_165 ?_
                refine lv_eqi (show 1 <<< ((nI p) &&& 31) = nI (2 ^ p) from one_shl p (by omega)) ?_
                refine lv_ior hx hb dX3_goes_166 ?_
                refine lv_eqi (show (nI (mskA A)) ||| (nI (2 ^ p)) = nI (mskA (A ++ [some p])) from (nI_or _ _).trans (by rw [msk_app])) ?_
                have hbd : solB (x.2.1 4) a b A (solsF (x.2.1 4) a b wn mm) p = solsF (x.2.1 4) a b wn mm (A ++ [some p]) := sol_yes hin b_134 b_152
                have eL : A.length + 1 = (A ++ [some p]).length := by rw [List.length_append]; rfl
                rw [eL]
                refine cl_v (ru_V (mc := 0) (ms := 0) (As := [.int (nI (A ++ [some p]).length), .int (nI (mskA (A ++ [some p])))]) (rest := []) hF (hrec (A ++ [some p]) (wC false w ((List.range p).flatMap (solB (x.2.1 4) a b A (solsF (x.2.1 4) a b wn mm))).length) fp1 (va_up to1 A.length (nI p)) fi1 (by rw [← eL]; omega) (toA hto1) (A8 g2 (by omega)) (fun z => nomatch z) (by rw [← hbd]; unfold wC; simp only [if_true, if_false, Bool.false_eq_true]; omega)) (cwV 2 hts (lw_V q754 q756 qs19 q65 q757) rfl rfl rfl (by decide +kernel) ⟨by rw [hR1]; dsimp only [rmG]; omega, by rw [hR4]; dsimp only [rmG]; omega⟩) hW (List.mem_of_getElem? (i := 5) rfl) (ci := 3) rfl rfl rfl hl.1 rfl (lv_room (Nat.le_of_ble_eq_true rfl)) dX3_goes_167 ⟨by omega, by omega⟩) hW (fun u_ H locs h_ hW => ?_)
                obtain ⟨w2, fp2, to2, fi2⟩ := u_
                obtain ⟨r1, r2, r3⟩ := h_
                have r1 : w2 = _ := r1
                subst r1
                have hW : pM G (HWl G ad (fdx x (nI (wC false (wC false w ((List.range p).flatMap (solB (x.2.1 4) a b A (solsF (x.2.1 4) a b wn mm))).length) (solsF (x.2.1 4) a b wn mm (A ++ [some p])).length)) fp2 to2 fi2) ++ T) s _ _ := hW
                refine lv_aload_n hx hb dX3_goes_170 rfl (lv_at hl 0 rfl) ?_
                refine gH5_to hF hW q218 dX3_goes_171 ?_
                refine lv_iload_n hx hb dX3_goes_174 rfl (lv_at hl 1 rfl) ?_
                refine lv_iconst (v := (-1)) hx hb dX3_goes_175 (by decide) ?_
                refine sH6 hF hW (j := A.length) (rfl) (by omega) dX3_goes_176 (fun H locs hW => ?_)
                have hW : pM G (HWl G ad (xa (fdx x (nI (wC false (wC false w ((List.range p).flatMap (solB (x.2.1 4) a b A (solsF (x.2.1 4) a b wn mm))).length) (solsF (x.2.1 4) a b wn mm (A ++ [some p])).length)) fp2 to2 fi2) 2 (va_up ((fdx x (nI (wC false (wC false w ((List.range p).flatMap (solB (x.2.1 4) a b A (solsF (x.2.1 4) a b wn mm))).length) (solsF (x.2.1 4) a b wn mm (A ++ [some p])).length)) fp2 to2 fi2).2.1 2) A.length (-1))) ++ T) s _ _ := hW
                have ew : wC false (wC false w ((List.range p).flatMap (solB (x.2.1 4) a b A (solsF (x.2.1 4) a b wn mm))).length) (solsF (x.2.1 4) a b wn mm (A ++ [some p])).length = wC false w ((List.range (p + 1)).flatMap (solB (x.2.1 4) a b A (solsF (x.2.1 4) a b wn mm))).length := by rw [wC_add, rng_s, List.length_append, hbd]
                rw [ew] at hW
                have hW : pM G (HWl G ad (fdx x (nI (wC false w ((List.range (p + 1)).flatMap (solB (x.2.1 4) a b A (solsF (x.2.1 4) a b wn mm))).length)) fp2 (va_up to2 A.length (-1)) fi2) ++ T) s _ _ := hW
                refine lv_iinc (v := nI (p + 1)) (lv' := [(3, .int (nI (p + 1))), (0, .ref (ad 5)), (1, .int (nI A.length)), (2, .int (nI (mskA A)))]) hx hb dX3_goes_177 hl (k := 3) rfl (nI_1 _) (by decide) rfl (fun ls hl => ?_)
                refine lv_goto (tgt := 78) hx hb dX3_goes_180 (by decide) ?_
                exact W.widen (by omega) (by omega) (ih (p + 1) fp2 (va_up to2 A.length (-1)) fi2 H locs ls (by omega) (by omega) (toB r2) (fun j hj => by rw [rng_s]; exact (r3 j hj).trans (by rw [hbd]; exact fiF_app (hfi1 j hj))) hW (lv_sub hl [1, 2, 3, 0] rfl))
              · refine lv_if_eq (tgt := 170) hx hb dX3_goes_155 (by decide) (fun c_155 => ?_) (fun c_155 => absurd c_155 (by decide))
                have hbd : solB (x.2.1 4) a b A (solsF (x.2.1 4) a b wn mm) p = [] := if_pos (Or.inr (Or.inr b_152))
                refine lv_aload_n hx hb dX3_goes_170 rfl (lv_at hl 0 rfl) ?_
                refine gH5_to hF hW q218 dX3_goes_171 ?_
                refine lv_iload_n hx hb dX3_goes_174 rfl (lv_at hl 1 rfl) ?_
                refine lv_iconst (v := (-1)) hx hb dX3_goes_175 (by decide) ?_
                refine sH6 hF hW (j := A.length) (rfl) (by omega) dX3_goes_176 (fun H locs hW => ?_)
                have hW : pM G (HWl G ad (xa (fdx x (nI (wC false w ((List.range p).flatMap (solB (x.2.1 4) a b A (solsF (x.2.1 4) a b wn mm))).length)) fp1 to1 fi1) 2 (va_up (va_up ((fdx x (nI (wC false w ((List.range p).flatMap (solB (x.2.1 4) a b A (solsF (x.2.1 4) a b wn mm))).length)) fp1 to1 fi1).2.1 2) A.length (nI p)) A.length (-1))) ++ T) s _ _ := hW
                have ew : (wC false w ((List.range p).flatMap (solB (x.2.1 4) a b A (solsF (x.2.1 4) a b wn mm))).length) = wC false w ((List.range (p + 1)).flatMap (solB (x.2.1 4) a b A (solsF (x.2.1 4) a b wn mm))).length := by rw [rng_s, hbd, List.append_nil]
                rw [ew] at hW
                have hW : pM G (HWl G ad (fdx x (nI (wC false w ((List.range (p + 1)).flatMap (solB (x.2.1 4) a b A (solsF (x.2.1 4) a b wn mm))).length)) fp1 (va_up (va_up to1 A.length (nI p)) A.length (-1)) fi1) ++ T) s _ _ := hW
                refine lv_iinc (v := nI (p + 1)) (lv' := [(3, .int (nI (p + 1))), (0, .ref (ad 5)), (1, .int (nI A.length)), (2, .int (nI (mskA A)))]) hx hb dX3_goes_177 hl (k := 3) rfl (nI_1 _) (by decide) rfl (fun ls hl => ?_)
                refine lv_goto (tgt := 78) hx hb dX3_goes_180 (by decide) ?_
                exact W.widen (by omega) (by omega) (ih (p + 1) fp1 (va_up (va_up to1 A.length (nI p)) A.length (-1)) fi1 H locs ls (by omega) (by omega) (toB (toA hto1)) (fun j hj => by rw [rng_s]; exact (hfi1 j hj).trans (by rw [hbd, List.append_nil])) hW (lv_sub hl [1, 2, 3, 0] rfl))
            · refine lv_if_ne (tgt := 143) hx hb dX3_goes_137 (by decide) (fun c_137 => absurd c_137 (by decide)) (fun c_137 => ?_)
              have hbd : solB (x.2.1 4) a b A (solsF (x.2.1 4) a b wn mm) p = [] := if_pos (Or.inr (Or.inl b_134))
              refine lv_goto (tgt := 177) hx hb dX3_goes_140 (by decide) ?_
              have ew : (wC false w ((List.range p).flatMap (solB (x.2.1 4) a b A (solsF (x.2.1 4) a b wn mm))).length) = wC false w ((List.range (p + 1)).flatMap (solB (x.2.1 4) a b A (solsF (x.2.1 4) a b wn mm))).length := by rw [rng_s, hbd, List.append_nil]
              rw [ew] at hW
              have hW : pM G (HWl G ad (fdx x (nI (wC false w ((List.range (p + 1)).flatMap (solB (x.2.1 4) a b A (solsF (x.2.1 4) a b wn mm))).length)) fp1 to1 fi1) ++ T) s _ _ := hW
              refine lv_iinc (v := nI (p + 1)) (lv' := [(3, .int (nI (p + 1))), (0, .ref (ad 5)), (1, .int (nI A.length)), (2, .int (nI (mskA A)))]) hx hb dX3_goes_177 hl (k := 3) rfl (nI_1 _) (by decide) rfl (fun ls hl => ?_)
              refine lv_goto (tgt := 78) hx hb dX3_goes_180 (by decide) ?_
              exact W.widen (by omega) (by omega) (ih (p + 1) fp1 to1 fi1 H locs ls (by omega) (by omega) (hto1) (fun j hj => by rw [rng_s]; exact (hfi1 j hj).trans (by rw [hbd, List.append_nil])) hW (lv_sub hl [1, 2, 3, 0] rfl))
    exact loop_78 _ 0 fp to fi _ _ _ (Nat.lt_succ_self _) (Nat.zero_le _) (g1) (fun j _ => (fi_nil w fi j).symm) hW (lv_sub hl [1, 2, 3, 0] rfl)
  · have hbit : ¬ wn.testBit A.length = true := by rw [(bit_f (by omega) (by omega)).mp c_64]; decide
    refine lv_aload_n hx hb dX3_goes_67 rfl (lv_at hl 0 rfl) ?_
    refine lv_iload_n hx hb dX3_goes_68 rfl (lv_at hl 1 rfl) ?_
    refine lv_iconst (v := 1) hx hb dX3_goes_69 (by decide) ?_
    refine lv_iadd hx hb dX3_goes_70 ?_
    refine lv_eqi (show (nI A.length) + 1 = nI (A ++ [none]).length from (nI_1 _).trans (by rw [List.length_append]; rfl)) ?_
    refine lv_iload_n hx hb dX3_goes_71 rfl (lv_at hl 2 rfl) ?_
    refine lv_eqi (show nI (mskA A) = nI (mskA (A ++ [none])) from by rw [msk_non]) ?_
    have eqS : solsF (x.2.1 4) a b wn (mm + 1) A = solsF (x.2.1 4) a b wn mm (A ++ [none]) := if_neg hbit
    have eL : A.length + 1 = (A ++ [none]).length := by rw [List.length_append]; rfl
    refine cl_v (ru_V (mc := 0) (ms := 0) (As := [.int (nI (A ++ [none]).length), .int (nI (mskA (A ++ [none])))]) (rest := []) hF (hrec (A ++ [none]) w fp to fi (by rw [← eL]; omega) (toN g1) (A8n g2) (g3) (by rw [← eqS]; exact g4)) (cwV 2 hts (lw_V q754 q756 qs19 q65 q757) rfl rfl rfl (by decide +kernel) ⟨by rw [hR1]; dsimp only [rmG]; omega, by rw [hR4]; dsimp only [rmG]; omega⟩) hW (List.mem_of_getElem? (i := 5) rfl) (ci := 3) rfl rfl rfl hl.1 rfl (lv_room (Nat.le_of_ble_eq_true rfl)) dX3_goes_72 ⟨by omega, by omega⟩) hW (fun u_ H locs h_ hW => ?_)
    obtain ⟨w2, fp2, to2, fi2⟩ := u_
    obtain ⟨r1, r2, r3⟩ := h_
    have r1 : w2 = _ := r1
    subst r1
    have hW : pM G (HWl G ad (fdx x (nI (wC false w (solsF (x.2.1 4) a b wn mm (A ++ [none])).length)) fp2 to2 fi2) ++ T) s _ _ := hW
    exact re_v hF hRt hLk hQ (by omega) (by omega) dX3_goes_75 (nI (wC false w (solsF (x.2.1 4) a b wn mm (A ++ [none])).length), fp2, to2, fi2) (by rw [eqS]; exact ⟨rfl, toM r2, r3⟩) hW
