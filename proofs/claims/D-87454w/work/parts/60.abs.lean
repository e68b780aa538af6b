/-! what is told, without cells: words, papers, files, things, claims, acts -/
abbrev Pp : Type := Tx × Nat × Nat
abbrev Ff : Type := Tx × Nat × Option Nat
/-- text, file, on, known, granted, dropped -/
abbrev Cl : Type := Tx × Nat × Option Nat × Nat × Option Nat × Option Nat
/-- words, wider, papers, files, things, claims, now -/
abbrev Co : Type := List (List Nat) × List (Option Nat) × List Pp × List Ff × List (Tx × Nat) × List Cl × Nat
/-- kind, of what, days, text -/
abbrev Ac : Type := Nat × Nat × Nat × Tx
abbrev cW (c : Co) : List (List Nat) := c.1
abbrev cV (c : Co) : List (Option Nat) := c.2.1
abbrev cP (c : Co) : List Pp := c.2.2.1
abbrev cF (c : Co) : List Ff := c.2.2.2.1
abbrev cT (c : Co) : List (Tx × Nat) := c.2.2.2.2.1
abbrev cC (c : Co) : List Cl := c.2.2.2.2.2.1
abbrev cN (c : Co) : Nat := c.2.2.2.2.2.2
def nT : Tx := ([], [], [])
def dP : Pp := (nT, 0, 0)
def dF : Ff := (nT, 0, none)
def dG : Tx × Nat := (nT, 0)
def dC : Cl := (nT, 0, none, 0, none, none)
/-- core, acts, tape, taped, (trouble, fault, where, left), way, fallen -/
abbrev AS : Type := Co × List Ac × (Nat → Int32) × Nat × (Int32 × Int32 × Int32 × Int32) × List Nat × List Nat
def stR (S : AS) (tr wh : Int32) : AS := (S.1, S.2.1, S.2.2.1, S.2.2.2.1, (tr, S.2.2.2.2.1.2.1, wh, S.2.2.2.2.1.2.2.2), S.2.2.2.2.2)
def stF (S : AS) (fa : Int32) : AS := (S.1, S.2.1, S.2.2.1, S.2.2.2.1, (S.2.2.2.2.1.1, fa, S.2.2.2.2.1.2.2), S.2.2.2.2.2)
def stL (S : AS) (lf : Int32) : AS := (S.1, S.2.1, S.2.2.1, S.2.2.2.1, (S.2.2.2.2.1.1, S.2.2.2.2.1.2.1, S.2.2.2.2.1.2.2.1, lf), S.2.2.2.2.2)
def stN (S : AS) (f : Nat → Int32) (n : Nat) : AS := (S.1, S.2.1, f, n, S.2.2.2.2)
def stC (S : AS) (c : Co) (a : Ac) : AS := (c, a :: S.2.1, S.2.2)
def stY (S : AS) (w : List Nat) : AS := (S.1, S.2.1, S.2.2.1, S.2.2.2.1, S.2.2.2.2.1, w, S.2.2.2.2.2.2)
def stK (S : AS) (w : List Nat) : AS := (S.1, S.2.1, S.2.2.1, S.2.2.2.1, S.2.2.2.2.1, S.2.2.2.2.2.1, w)
/-- wider words as numbers -/
def wdF (c : Co) : Nat → Int32 := fun k => enc ((cV c).getD k none)
def modC (l : List Cl) (k : Nat) (f : Cl → Cl) : List Cl := l.set k (f (l.getD k dC))
def sTx (t : Tx) (q : Cl) : Cl := (t, q.2)
def sGr (g : Option Nat) (q : Cl) : Cl := (q.1, q.2.1, q.2.2.1, q.2.2.2.1, g, q.2.2.2.2.2)
def sDr (d : Option Nat) (q : Cl) : Cl := (q.1, q.2.1, q.2.2.1, q.2.2.2.1, q.2.2.2.2.1, d)
/-- an act taken back -/
def undoC (a : Ac) (c : Co) : Co :=
  if a.1 = 0 then ((cW c).dropLast, (cV c).dropLast, c.2.2)
  else if a.1 = 1 then (cW c, cV c, cP c, cF c, cT c, cC c, a.2.1)
  else if a.1 = 2 then (cW c, cV c, (cP c).dropLast, cF c, cT c, cC c, cN c)
  else if a.1 = 3 then (cW c, cV c, cP c, cF c, (cT c).dropLast, cC c, cN c)
  else if a.1 = 4 then (cW c, cV c, cP c, (cF c).dropLast, cT c, cC c, cN c)
  else if a.1 = 5 then (cW c, cV c, cP c, cF c, cT c, (cC c).dropLast, cN c)
  else if a.1 = 6 then (cW c, cV c, cP c, cF c, cT c, modC (cC c) a.2.1 (sTx a.2.2.2), cN c)
  else if a.1 = 7 then (cW c, cV c, cP c, cF c, cT c, modC (cC c) a.2.1 (sGr none), cN c)
  else (cW c, cV c, cP c, cF c, cT c, modC (cC c) a.2.1 (sDr none), cN c)
/-- what an act needs of what it made -/
def vld (a : Ac) (c : Co) : Prop :=
  a.1 < 9 ∧ (a.1 = 0 → cW c ≠ []) ∧ (a.1 = 1 → cN c = a.2.1 + a.2.2.1 ∧ a.2.2.1 ≤ 5000) ∧ (a.1 = 2 → cP c ≠ []) ∧ (a.1 = 3 → cT c ≠ []) ∧ (a.1 = 4 → cF c ≠ []) ∧ (a.1 = 5 → cC c ≠ []) ∧ (6 ≤ a.1 → a.2.1 < (cC c).length)
def InvC (c : Co) : Prop :=
  ((cW c).length ≤ 60 ∧ (cV c).length = (cW c).length ∧ (cW c).Nodup ∧ (∀ u ∈ cW c, WfW u) ∧ (∀ k, k < (cV c).length → ∀ j, (cV c).getD k none = some j → j < k)) ∧
  ((cP c).length ≤ 20 ∧ ∀ p ∈ cP c, TxOk (cW c).length 8 10 p.1 ∧ p.2.1 ≤ 20000 ∧ p.2.2 ≤ 20000) ∧
  ((cF c).length ≤ 8 ∧ ∀ k, k < (cF c).length → TxOk (cW c).length 8 10 ((cF c).getD k dF).1 ∧ ((cF c).getD k dF).2.1 ≤ 20000 ∧ ∀ j, ((cF c).getD k dF).2.2 = some j → j < k) ∧
  ((cT c).length ≤ 12 ∧ ∀ p ∈ cT c, TxOk (cW c).length 8 10 p.1 ∧ p.2 ≤ 20000) ∧
  ((cC c).length ≤ 40 ∧ ∀ k, k < (cC c).length → TxOk (cW c).length 6 8 ((cC c).getD k dC).1 ∧ ((cC c).getD k dC).2.1 < (cF c).length ∧ (∀ j, ((cC c).getD k dC).2.2.1 = some j → j < k) ∧ ((cC c).getD k dC).2.2.2.1 ≤ cN c ∧ (∀ g, ((cC c).getD k dC).2.2.2.2.1 = some g → ((cC c).getD k dC).2.2.2.1 ≤ g ∧ g ≤ 20000) ∧ (∀ g, ((cC c).getD k dC).2.2.2.2.2 = some g → g ≤ 20000)) ∧
  cN c ≤ 20000
def Chn : List Ac → Co → Prop
  | [], c => InvC c
  | a :: as, c => InvC c ∧ vld a c ∧ Chn as (undoC a c)
theorem Chn.inv {as : List Ac} {c : Co} (h : Chn as c) : InvC c := by
  cases as with
  | nil => exact h
  | cons a as => exact h.1
def SOk (n : Nat) (S : AS) : Prop := Chn S.2.1 S.1 ∧ S.2.1.length ≤ n ∧ S.2.2.2.1 ≤ 300 ∧ S.2.2.2.2.2.1.length ≤ 8 ∧ S.2.2.2.2.2.2.length ≤ 40 ∧ (∀ w ∈ S.2.2.2.2.2.1, w < 8) ∧ (∀ w ∈ S.2.2.2.2.2.2, w < 40) ∧ (S.2.2.2.2.1.1 ≠ 4 → S.2.2.2.2.1.2.2.1 = -1)
/-- a number as an index below n -/
def ix (a : Int32) (n : Nat) : Option Nat := if 0 ≤ a ∧ a < nI n then some a.toNatClampNeg else none
/-- none by -1, or an index -/
def ixo (a : Int32) (n : Nat) : Option (Option Nat) := if a = -1 then some none else match ix a n with
  | none => none
  | some k => some (some k)
/-- a number of bytes that are there -/
def ixn (a : Int32) (n : Nat) : Option Nat := ix a (n + 1)
def rfS (S : AS) (w : Int32) : AS × Int32 := (stR S w (-1), -1)
/-- a text read off the tape behind a base -/
def readS (S : AS) (n mp ml : Nat) (b : Tx) : Nat × Nat ⊕ Tx := rdL S.2.2.1 n (cW S.1) mp ml (n + 1) 0 b
def cutS (S : AS) : AS := stF (stN S S.2.2.1 0) 0
def wrongS (S : AS) (e : Nat × Nat) : AS := stF (stR S 4 (nI e.2)) (nI e.1)
def feedL (a b c d e : Int32) : List Int32 := bytesOf a ++ (bytesOf b ++ (bytesOf c ++ (bytesOf d ++ bytesOf e)))
def feedS (S : AS) (a b c d e : Int32) : AS × Int32 := if S.2.2.2.1 + 20 ≤ 300 then (stN S (wr S.2.2.1 S.2.2.2.1 (feedL a b c d e)) (S.2.2.2.1 + 20), nI (S.2.2.2.1 + 20)) else (S, -1)
def wordS (S : AS) (a0 a1 : Int32) : AS × Int32 := match ixo a0 (cW S.1).length with
  | none => rfS S 1
  | some o => match ixn a1 S.2.2.2.1 with
    | none => rfS S 2
    | some n => if (tkK S.2.2.1 n 0 = 2 ∧ tkK S.2.2.1 n (tkE S.2.2.1 n 0) = 0) ∧ pix (cW S.1) (tkW S.2.2.1 n 0) = none then
        (if (cW S.1).length = 60 then rfS (stN S S.2.2.1 0) 3
        else (stR (stC (stN S S.2.2.1 0) (cW S.1 ++ [tkW S.2.2.1 n 0], cV S.1 ++ [o], S.1.2.2) (0, 0, 0, nT)) 0 (-1), nI (cW S.1).length))
      else rfS (stN S S.2.2.1 0) 2
def underS (S : AS) (a0 a1 : Int32) : Int32 := match ix a0 (cW S.1).length, ix a1 (cW S.1).length with
  | some i, some j => if underB (wdF S.1) i j = true then 1 else 0
  | _, _ => -1
def passS (S : AS) (a0 : Int32) : AS × Int32 := if (1 ≤ a0 ∧ a0 ≤ 5000) ∧ cN S.1 + a0.toNatClampNeg ≤ 20000 then (stR (stC S (cW S.1, cV S.1, cP S.1, cF S.1, cT S.1, cC S.1, cN S.1 + a0.toNatClampNeg) (1, cN S.1, a0.toNatClampNeg, nT)) 0 (-1), nI (cN S.1 + a0.toNatClampNeg)) else rfS S 2
def paperS (S : AS) (a0 a1 : Int32) : AS × Int32 := match ixn a0 (cN S.1), ixn a1 S.2.2.2.1 with
  | some d, some n => match readS S n 8 10 nT with
    | .inl e => (wrongS (cutS S) e, -1)
    | .inr t => if (cP S.1).length = 20 then rfS (cutS S) 3 else (stR (stC (cutS S) (cW S.1, cV S.1, cP S.1 ++ [(t, d, cN S.1)], cF S.1, cT S.1, cC S.1, cN S.1) (2, 0, 0, nT)) 0 (-1), nI (cP S.1).length)
  | _, _ => rfS S 2
def thingS (S : AS) (a0 : Int32) : AS × Int32 := match ixn a0 S.2.2.2.1 with
  | some n => match readS S n 8 10 nT with
    | .inl e => (wrongS (cutS S) e, -1)
    | .inr t => if (cT S.1).length = 12 then rfS (cutS S) 3 else (stR (stC (cutS S) (cW S.1, cV S.1, cP S.1, cF S.1, cT S.1 ++ [(t, cN S.1)], cC S.1, cN S.1) (3, 0, 0, nT)) 0 (-1), nI (cT S.1).length)
  | none => rfS S 2
def fileS (S : AS) (a0 a1 : Int32) : AS × Int32 := match ixo a0 (cF S.1).length with
  | none => rfS S 1
  | some b => match ixn a1 S.2.2.2.1 with
    | none => rfS S 2
    | some n => match readS S n 8 10 nT with
      | .inl e => (wrongS (cutS S) e, -1)
      | .inr t => if (cF S.1).length = 8 then rfS (cutS S) 3 else (stR (stC (cutS S) (cW S.1, cV S.1, cP S.1, cF S.1 ++ [(t, cN S.1, b)], cT S.1, cC S.1, cN S.1) (4, 0, 0, nT)) 0 (-1), nI (cF S.1).length)
/-- whether all of a is found in b -/
def disA (c : Co) (b a : Tx) : Bool := disB (wdF c) a b (2 ^ a.1.length - 1)
def baseT (c : Co) (o : Option Nat) : Tx := match o with
  | none => nT
  | some k => ((cC c).getD k dC).1
def offB (c : Co) (o : Option Nat) (f : Nat) : Bool := match o with
  | none => false
  | some k => decide (((cC c).getD k dC).2.1 ≠ f)
def claimS (S : AS) (a0 a1 a2 : Int32) : AS × Int32 := match ix a0 (cF S.1).length, ixo a1 (cC S.1).length with
  | some f, some o => if offB S.1 o f = true then rfS S 1 else match ixn a2 S.2.2.2.1 with
    | none => rfS S 2
    | some n => match readS S n 6 8 (baseT S.1 o) with
      | .inl e => (wrongS (cutS S) e, -1)
      | .inr t => if disA S.1 ((cF S.1).getD f dF).1 t = false then rfS (cutS S) 5 else if (cC S.1).length = 40 then rfS (cutS S) 3 else
          (stR (stC (cutS S) (cW S.1, cV S.1, cP S.1, cF S.1, cT S.1, cC S.1 ++ [(t, f, o, cN S.1, none, none)], cN S.1) (5, 0, 0, nT)) 0 (-1), nI (cC S.1).length)
  | _, _ => rfS S 1
def stoodB (c : Co) (k : Nat) : Bool := (cC c).any (fun q => decide (q.2.2.1 = some k))
/-- refused, of those that answer yes or no -/
def rfN (S : AS) (w : Int32) : AS × Int32 := (stR S w (-1), 0)
def amendS (S : AS) (a0 a1 : Int32) : AS × Int32 := match ix a0 (cC S.1).length with
  | none => rfN S 1
  | some k => match ixn a1 S.2.2.2.1 with
    | none => rfN S 2
    | some n => if ((cC S.1).getD k dC).2.2.2.2.1 ≠ none then rfN S 7 else if stoodB S.1 k = true then rfN S 8 else
      match readS S n 6 8 (baseT S.1 ((cC S.1).getD k dC).2.2.1) with
      | .inl e => (wrongS (cutS S) e, 0)
      | .inr t => if disA S.1 ((cF S.1).getD ((cC S.1).getD k dC).2.1 dF).1 t = false then rfN (cutS S) 5 else if disA S.1 t ((cC S.1).getD k dC).1 = false then rfN (cutS S) 6 else
          (stR (stC (cutS S) (cW S.1, cV S.1, cP S.1, cF S.1, cT S.1, modC (cC S.1) k (sTx t), cN S.1) (6, k, 0, ((cC S.1).getD k dC).1)) 0 (-1), 1)
def grantS (S : AS) (a0 : Int32) : AS × Int32 := match ix a0 (cC S.1).length with
  | none => rfN S 1
  | some k => if ((cC S.1).getD k dC).2.2.2.2.1 ≠ none then rfN S 7 else
      (stR (stC S (cW S.1, cV S.1, cP S.1, cF S.1, cT S.1, modC (cC S.1) k (sGr (some (cN S.1))), cN S.1) (7, k, 0, nT)) 0 (-1), 1)
def dropS (S : AS) (a0 : Int32) : AS × Int32 := match ix a0 (cC S.1).length with
  | none => rfN S 1
  | some k => if ((cC S.1).getD k dC).2.2.2.2.1 = none ∨ ((cC S.1).getD k dC).2.2.2.2.2 ≠ none then rfN S 7 else
      (stR (stC S (cW S.1, cV S.1, cP S.1, cF S.1, cT S.1, modC (cC S.1) k (sDr (some (cN S.1))), cN S.1) (8, k, 0, nT)) 0 (-1), 1)
/-- the day that counts for a text filed with f -/
def dayF (c : Co) (t : Tx) : Nat → Nat → Nat
  | 0, f => ((cF c).getD f dF).2.1
  | g + 1, f => match ((cF c).getD f dF).2.2 with
    | none => ((cF c).getD f dF).2.1
    | some j => if disA c ((cF c).getD j dF).1 t = true then dayF c t g j else ((cF c).getD f dF).2.1
def dayOf (c : Co) (k : Nat) : Nat := dayF c ((cC c).getD k dC).1 8 ((cC c).getD k dC).2.1
def endsF (c : Co) (k : Nat) (kn : Int32) : Int32 := endsV (enc ((cC c).getD k dC).2.2.2.2.2) (nI ((cF c).getD ((cC c).getD k dC).2.1 dF).2.1) kn
def aboutS (S : AS) (a0 a1 : Int32) : Int32 := match ix a0 (cC S.1).length with
  | none => -1
  | some k => if a1 = 0 then nI ((cC S.1).getD k dC).2.1 else if a1 = 1 then enc ((cC S.1).getD k dC).2.2.1 else if a1 = 2 then nI ((cC S.1).getD k dC).1.1.length else if a1 = 3 then nI ((cC S.1).getD k dC).1.2.2.length else if a1 = 4 then nI (dayOf S.1 k) else if a1 = 5 then enc ((cC S.1).getD k dC).2.2.2.2.1 else if a1 = 6 then (if ((cC S.1).getD k dC).2.2.2.2.1 = none then -1 else endsF S.1 k (nI (cN S.1))) else if a1 = 7 then nI ((cC S.1).getD k dC).2.2.2.1 else -1
def textOf (c : Co) (kind other : Int32) : Option Tx := if kind = 0 then (match ix other (cP c).length with
    | none => none
    | some k => some ((cP c).getD k dP).1)
  else if kind = 1 then (match ix other (cF c).length with
    | none => none
    | some k => some ((cF c).getD k dF).1)
  else if kind = 2 then (match ix other (cT c).length with
    | none => none
    | some k => some ((cT c).getD k dG).1)
  else none
def waysA (c : Co) (a b : Tx) : List (List (Option Nat)) := solsF (wdF c) a b (2 ^ a.1.length - 1) a.1.length []
def wayL (S : List (List (Option Nat))) : List Nat := match S with
  | [] => []
  | A :: _ => A.map (fun o => o.getD 0)
def findsS (S : AS) (a0 a1 a2 : Int32) : AS × Int32 := match ix a0 (cC S.1).length, textOf S.1 a1 a2 with
  | some k, some b => (stR (stY S (wayL (waysA S.1 ((cC S.1).getD k dC).1 b))) 0 (-1), nI (waysA S.1 ((cC S.1).getD k dC).1 b).length)
  | _, _ => rfS S 1
def partS (S : AS) (a0 : Int32) : Int32 := match ix a0 S.2.2.2.2.2.1.length with
  | none => -1
  | some k => nI (S.2.2.2.2.2.1.getD k 0)
/-- a claim and a day that can be asked: or the trouble -/
def askS (S : AS) (a0 a1 : Int32) : Int32 ⊕ Nat × Nat := match ix a0 (cC S.1).length with
  | none => .inl 1
  | some k => match ixn a1 20000 with
    | none => .inl 2
    | some d => if d < ((cC S.1).getD k dC).2.2.2.1 then .inl 1 else .inr (k, d)
/-- a paper that counts for a day, as known -/
def cntB (c : Co) (p day kn : Nat) : Bool := decide (((cP c).getD p dP).2.2 ≤ kn) && decide (((cP c).getD p dP).2.1 < day)
def oldB (c : Co) (k kn p : Nat) : Bool := cntB c p (dayOf c k) kn && disA c ((cP c).getD p dP).1 ((cC c).getD k dC).1
def fstI (o : Option Nat) : Int32 := match o with
  | none => -2
  | some k => nI k
def oldS (S : AS) (a0 a1 : Int32) : AS × Int32 := match askS S a0 a1 with
  | .inl w => rfS S w
  | .inr q => (stR S 0 (-1), fstI ((List.range (cP S.1).length).find? (oldB S.1 q.1 q.2)))
/-- how many of the bits that are told lie below k -/
def bcn (P k : Nat) : Nat := ((List.range k).filter (fun i => P.testBit i)).length
/-- some parts of a text, and some links -/
def choT (t : Tx) (P L : Nat) : Tx := (((List.range t.1.length).filter (fun i => P.testBit i)).map (fun i => t.1.getD i []), ((List.range t.1.length).filter (fun i => P.testBit i)).map (fun i => t.2.1.getD i 0),
  ((List.range t.2.2.length).filter (fun i => L.testBit i)).map (fun i => (bcn P (t.2.2.getD i (0, 0, 0)).1, (t.2.2.getD i (0, 0, 0)).2.1, bcn P (t.2.2.getD i (0, 0, 0)).2.2)))
/-- links of a part; parts at their ends -/
def hvL (t : Tx) (k : Nat) : Nat := (List.range t.2.2.length).foldl (fun m i => if (t.2.2.getD i (0, 0, 0)).1 = k ∨ (t.2.2.getD i (0, 0, 0)).2.2 = k then m ||| 2 ^ i else m) 0
def enP (t : Tx) (k : Nat) : Nat := (List.range t.2.2.length).foldl (fun m i => if (t.2.2.getD i (0, 0, 0)).1 = k ∨ (t.2.2.getD i (0, 0, 0)).2.2 = k then m ||| (2 ^ (t.2.2.getD i (0, 0, 0)).1 ||| 2 ^ (t.2.2.getD i (0, 0, 0)).2.2) else m) (2 ^ k)
/-- a part with its links and what lies at their other ends -/
def oneT (t : Tx) (k : Nat) : Tx := choT t (enP t k) (hvL t k)
/-- paper p counts and has all but part k -/
def otB (c : Co) (k kn i p : Nat) : Bool := cntB c p (dayOf c k) kn && disB (wdF c) ((cC c).getD k dC).1 ((cP c).getD p dP).1 (2 ^ ((cC c).getD k dC).1.1.length - 1 - 2 ^ i)
def itB (c : Co) (k kn i p : Nat) : Bool := cntB c p (dayOf c k) kn && disA c ((cP c).getD p dP).1 (oneT ((cC c).getD k dC).1 i)
def plnB (c : Co) (k kn p q : Nat) : Bool := decide (1 < ((cC c).getD k dC).1.1.length) && (List.range ((cC c).getD k dC).1.1.length).any (fun i => otB c k kn i p && itB c k kn i q)
/-- the first pair of papers -/
def plnR (c : Co) (k kn : Nat) (r : Int32) : Prop := (∃ p q, p < (cP c).length ∧ q < (cP c).length ∧ plnB c k kn p q = true ∧ (∀ p' q', p' < (cP c).length → q' < (cP c).length → plnB c k kn p' q' = true → 100 * p + q ≤ 100 * p' + q') ∧ r = nI (100 * p + q)) ∨ ((∀ p' q', p' < (cP c).length → q' < (cP c).length → plnB c k kn p' q' = false) ∧ r = -2)
def plainR (S : AS) (a0 a1 : Int32) (S' : AS) (r : Int32) : Prop := match askS S a0 a1 with
  | .inl w => (S', r) = rfS S w
  | .inr q => S' = stR S 0 (-1) ∧ plnR S.1 q.1 q.2 r
def popN : Nat → Nat → Nat
  | 0, _ => 0
  | g + 1, v => if v = 0 then 0 else popN g (v &&& (v - 1)) + 1
def pop (v : Nat) : Nat := popN v v
def takB (c : Co) (k s : Nat) : Bool := (List.range (cP c).length).any (fun p => cntB c p (dayOf c k) (cN c) && disB (wdF c) ((cC c).getD k dC).1 ((cP c).getD p dP).1 s)
/-- the best of those below s -/
def bst (c : Co) (k : Nat) : Nat → Nat
  | 0 => 0
  | s + 1 => if s = 0 then 0 else if bst c k s ≠ 0 ∧ pop (bst c k s) ≤ pop s then bst c k s else if takB c k s = true then bst c k s else s
def widestS (S : AS) (a0 : Int32) : AS × Int32 := match ix a0 (cC S.1).length with
  | none => rfS S 1
  | some k => if bst S.1 k (2 ^ ((cC S.1).getD k dC).1.1.length) = 0 then (stR S 0 (-1), -2) else (stR (stL S (nI (bst S.1 k (2 ^ ((cC S.1).getD k dC).1.1.length)))) 0 (-1), nI (pop (bst S.1 k (2 ^ ((cC S.1).getD k dC).1.1.length))))
def narrowerS (S : AS) (a0 a1 : Int32) : AS × Int32 := match ix a0 (cC S.1).length, ix a1 (cC S.1).length with
  | some i, some j => (stR S 0 (-1), if disA S.1 ((cC S.1).getD i dC).1 ((cC S.1).getD j dC).1 = true then 1 else 0)
  | _, _ => rfS S 1
def frcB (c : Co) (k : Nat) (day kn : Int32) : Bool := decide (enc ((cC c).getD k dC).2.2.2.2.1 ≠ -1 ∧ enc ((cC c).getD k dC).2.2.2.2.1 ≤ kn ∧ enc ((cC c).getD k dC).2.2.2.2.1 ≤ day ∧ day < endsF c k kn)
def dayB (a : Int32) : Prop := 0 ≤ a ∧ a ≤ 20000
def fallL (c : Co) (t : Nat) (day kn : Int32) (n : Nat) : List Nat := (List.range n).filter (fun k => frcB c k day kn && disA c ((cT c).getD t dG).1 ((cC c).getD k dC).1)
def fallsS (S : AS) (a0 a1 a2 : Int32) (S' : AS) (r : Int32) : Prop := match ix a0 (cT S.1).length with
  | none => (S', r) = rfS S 1
  | some t => (¬ (dayB a1 ∧ dayB a2) → (S', r) = rfS S 2) ∧ ((dayB a1 ∧ dayB a2) → ((a2 < nI ((cT S.1).getD t dG).2 → (S', r) = rfS S 1) ∧ (¬ a2 < nI ((cT S.1).getD t dG).2 → (S', r) = (stR (stK S (fallL S.1 t a1 a2 (cC S.1).length)) 0 (-1), nI (fallL S.1 t a1 a2 (cC S.1).length).length))))
def fallenS (S : AS) (a0 : Int32) : Int32 := match ix a0 S.2.2.2.2.2.2.length with
  | none => -1
  | some k => nI (S.2.2.2.2.2.2.getD k 0)
def forceS (S : AS) (a0 a1 a2 : Int32) (S' : AS) (r : Int32) : Prop := match ix a0 (cC S.1).length with
  | none => (S', r) = rfS S 1
  | some k => (¬ (dayB a1 ∧ dayB a2) → (S', r) = rfS S 2) ∧ ((dayB a1 ∧ dayB a2) → (S', r) = (stR S 0 (-1), if frcB S.1 k a1 a2 = true then 1 else 0))
def undoS (S : AS) : AS × Int32 := match S.2.1 with
  | [] => (S, 0)
  | a :: as => ((undoC a S.1, as, S.2.2), 1)
def countS (S : AS) (a0 : Int32) : Int32 := if a0 = 0 then nI (cW S.1).length else if a0 = 1 then nI (cP S.1).length else if a0 = 2 then nI (cF S.1).length else if a0 = 3 then nI (cT S.1).length else if a0 = 4 then nI (cC S.1).length else if a0 = 5 then nI (cN S.1) else if a0 = 6 then nI S.2.1.length else if a0 = 7 then nI S.2.2.2.1 else -1
def troubleS (S : AS) : Int32 := S.2.2.2.2.1.1
def faultS (S : AS) : Int32 := S.2.2.2.2.1.2.1
def whereS (S : AS) : Int32 := S.2.2.2.2.1.2.2.1
def leftS (S : AS) : Int32 := S.2.2.2.2.1.2.2.2
