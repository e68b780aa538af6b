/-! bits (out of the kit's rows to paste), copies, frozen texts, links found -/
def bt (x : Int32) (i : Nat) : Bool := x.toBitVec.getLsbD i
theorem b_ext {x y : Int32} (h : ∀ i, i < 32 → bt x i = bt y i) : x = y := Int32.toBitVec_inj.mp (BitVec.eq_of_getLsbD_eq (fun i hi => h i hi))
theorem b_or (x y : Int32) (i : Nat) : bt (x ||| y) i = (bt x i || bt y i) := by unfold bt; rw [Int32.toBitVec_or, BitVec.getLsbD_or]
theorem b_and (x y : Int32) (i : Nat) : bt (x &&& y) i = (bt x i && bt y i) := by unfold bt; rw [Int32.toBitVec_and, BitVec.getLsbD_and]
theorem b_xor (x y : Int32) (i : Nat) : bt (x ^^^ y) i = (bt x i ^^ bt y i) := by unfold bt; rw [Int32.toBitVec_xor, BitVec.getLsbD_xor]
theorem b_big {x : Int32} {i : Nat} (h : 32 ≤ i) : bt x i = false := BitVec.getLsbD_of_ge _ _ h
theorem b_255 (i : Nat) : bt 255 i = decide (i < 8) := by
  rcases Nat.lt_or_ge i 32 with h | h
  · exact (by decide +kernel : ∀ i, i < 32 → bt 255 i = decide (i < 8)) i h
  · rw [b_big h, decide_eq_false (by omega)]
theorem b_65535 (i : Nat) : bt 65535 i = decide (i < 16) := by
  rcases Nat.lt_or_ge i 32 with h | h
  · exact (by decide +kernel : ∀ i, i < 32 → bt 65535 i = decide (i < 16)) i h
  · rw [b_big h, decide_eq_false (by omega)]
theorem b_m1 : ∀ i, i < 32 → bt (-1) i = true := by decide +kernel
theorem b_0 (i : Nat) : bt 0 i = false := BitVec.getLsbD_zero
theorem s_l : ∀ n, n < 32 → ((nI n &&& 31).toBitVec.smod 32).toNat = n := by decide +kernel
theorem s_u : ∀ n, n < 32 → (((nI n).toUInt32 &&& Int32.toUInt32 31).toBitVec % 32).toNat = n := by decide +kernel
theorem b_shl (n : Nat) (hn : n < 32) (x : Int32) {i : Nat} (hi : i < 32) : bt (x <<< (nI n &&& 31)) i = (decide (n ≤ i) && bt x (i - n)) := by
  unfold bt
  rw [Int32.toBitVec_shiftLeft]
  show (x.toBitVec <<< ((nI n &&& 31).toBitVec.smod 32).toNat).getLsbD i = _
  rw [s_l n hn, BitVec.getLsbD_shiftLeft]
  rcases Nat.lt_or_ge i n with h | h
  · simp [h, Nat.not_le.mpr h]
  · simp [hi, h, Nat.not_lt.mpr h]
theorem b_ushr (n : Nat) (hn : n < 32) (x : Int32) (i : Nat) : bt ((x.toUInt32 >>> ((nI n).toUInt32 &&& Int32.toUInt32 31)).toInt32) i = bt x (n + i) := by
  show (x.toUInt32 >>> ((nI n).toUInt32 &&& Int32.toUInt32 31)).toBitVec.getLsbD i = x.toUInt32.toBitVec.getLsbD (n + i)
  rw [UInt32.toBitVec_shiftRight]
  show (x.toUInt32.toBitVec >>> (((nI n).toUInt32 &&& Int32.toUInt32 31).toBitVec % 32).toNat).getLsbD i = _
  rw [s_u n hn, BitVec.getLsbD_ushiftRight]
theorem b_sshr (n : Nat) (hn : n < 32) (x : Int32) {i : Nat} (hi : i < 32) : bt (x >>> (nI n &&& 31)) i = if n + i < 32 then bt x (n + i) else bt x 31 := by
  unfold bt
  rw [Int32.toBitVec_shiftRight]
  show (x.toBitVec.sshiftRight ((nI n &&& 31).toBitVec.smod 32).toNat).getLsbD i = _
  rw [s_l n hn, BitVec.getLsbD_sshiftRight, BitVec.msb_eq_getLsbD_last]
  simp [hi]

theorem bt_nI (a i : Nat) (hi : i < 32) : bt (nI a) i = a.testBit i := by
  show (BitVec.ofNat 32 a).getLsbD i = _
  rw [BitVec.getLsbD_ofNat]
  simp [hi]
theorem nI_shr {a k : Nat} (ha : a < 2 ^ 31) (hk : k < 32) : nI a >>> (nI k &&& 31) = nI (a >>> k) := by
  apply b_ext
  intro i hi
  rw [b_sshr k hk _ hi, bt_nI _ _ hi, Nat.testBit_shiftRight]
  by_cases h : k + i < 32
  · rw [if_pos h, bt_nI _ _ h]
  · rw [if_neg h, bt_nI _ _ (by omega)]
    rw [Nat.testBit_lt_two_pow ha, Nat.testBit_lt_two_pow (Nat.lt_of_lt_of_le ha (Nat.pow_le_pow_right (by omega) (by omega)))]
theorem bit_and {a k : Nat} (ha : a < 2 ^ 31) (hk : k < 32) : (nI a >>> (nI k &&& 31)) &&& 1 = nI ((a >>> k) % 2) := by
  rw [nI_shr ha hk]
  have h : a >>> k < 2 ^ 32 := by
    have := Nat.shiftRight_le a k
    omega
  have := pk_andN h (m := 1) 1 (by decide)
  rw [this]
theorem bit_1 {a k : Nat} : (a >>> k) % 2 = 1 ↔ a.testBit k = true := by
  rw [Nat.testBit_eq_decide_div_mod_eq, Nat.shiftRight_eq_div_pow]
  simp
theorem bit_0 {a k : Nat} : (a >>> k) % 2 = 0 ↔ a.testBit k = false := by
  have := bit_1 (a := a) (k := k)
  have h2 : (a >>> k) % 2 < 2 := Nat.mod_lt _ (by omega)
  cases hb : a.testBit k with
  | true => rw [hb] at this; have := this.mpr rfl; simp; omega
  | false => rw [hb] at this; constructor
             · intro _; rfl
             · intro _; have h3 : ¬ (a >>> k) % 2 = 1 := fun z => by have := this.mp z; cases this
               omega
theorem bit_t {a k : Nat} (ha : a < 2 ^ 31) (hk : k < 32) : (nI a >>> (nI k &&& 31)) &&& 1 = 1 ↔ a.testBit k = true := by
  rw [bit_and ha hk, ← bit_1]
  have h2 : (a >>> k) % 2 < 2 := Nat.mod_lt _ (by omega)
  exact ⟨fun e => eq_eq (b := 1) e, fun e => by rw [e]; rfl⟩
theorem bit_f {a k : Nat} (ha : a < 2 ^ 31) (hk : k < 32) : (nI a >>> (nI k &&& 31)) &&& 1 = 0 ↔ a.testBit k = false := by
  rw [bit_and ha hk, ← bit_0]
  have h2 : (a >>> k) % 2 < 2 := Nat.mod_lt _ (by omega)
  exact ⟨fun e => eq_eq (b := 0) e, fun e => by rw [e]; rfl⟩
theorem one_shl : ∀ k, k < 31 → (1 : Int32) <<< (nI k &&& 31) = nI (2 ^ k) := by decide +kernel
/-- a text of the hall that stays as it is -/
def HT (G : pG) (T : va_W) (p : Nat) (t : Tx) : Prop := ∃ (an aw al : Nat) (nf lf : Nat → Option Nat) (wf : Nat → Int32), (p, .inr (4, [.ref an, .ref aw, .ref al, .int (nI t.1.length), .int (nI t.2.2.length)])) ∈ T ∧ (an, .inl (G.2.2.1 4, 8, .inr (.inr (.inr (.inr nf))))) ∈ T ∧ (aw, .inl (G.2.2.1 0, 8, .inl wf)) ∈ T ∧ (al, .inl (G.2.2.1 10, 10, .inr (.inr (.inr (.inr lf))))) ∈ T ∧ HTc G T t nf lf wf
theorem HT.mono {G : pG} {T T1 : va_W} {p : Nat} {t : Tx} (h : HT G T p t) (hs : ∀ q ∈ T, q ∈ T1) : HT G T1 p t := by
  obtain ⟨an, aw, al, nf, lf, wf, h1, h2, h3, h4, h5⟩ := h
  exact ⟨an, aw, al, nf, lf, wf, hs _ h1, hs _ h2, hs _ h3, hs _ h4, h5.mono hs⟩
/-- a link from i to j of a word under w -/
def hlB (wd : Nat → Int32) (b : Tx) (i w j : Nat) : Bool := b.2.2.any (fun l => decide (l.1 = i) && (decide (l.2.2 = j) && underB wd l.2.1 w))
/-- a link of part k with one that is placed is there -/
def lkP (wd : Nat → Int32) (b : Tx) (A : List (Option Nat)) (k : Nat) (l : Nat × Nat × Nat) : Bool := !(decide (l.1 = k) || decide (l.2.2 = k)) || (match A.getD l.1 none, A.getD l.2.2 none with
  | some i, some j => hlB wd b i l.2.1 j
  | _, _ => true)
def lkB (wd : Nat → Int32) (a b : Tx) (A : List (Option Nat)) (k : Nat) : Bool := a.2.2.all (lkP wd b A k)
theorem lk_n {wd : Nat → Int32} {b : Tx} {A : List (Option Nat)} {k : Nat} {q : Nat × Nat × Nat} (h1 : ¬ q.1 = k) (h2 : ¬ q.2.2 = k) : lkP wd b A k q = true := by unfold lkP; simp [h1, h2]
theorem lk_0 {wd : Nat → Int32} {b : Tx} {A : List (Option Nat)} {k : Nat} {q : Nat × Nat × Nat} (h : A.getD q.1 none = none) : lkP wd b A k q = true := by unfold lkP; rw [h]; simp
theorem lk_1 {wd : Nat → Int32} {b : Tx} {A : List (Option Nat)} {k : Nat} {q : Nat × Nat × Nat} (h : A.getD q.2.2 none = none) : lkP wd b A k q = true := by
  unfold lkP
  rw [h]
  cases A.getD q.1 none <;> simp
theorem lk_y {wd : Nat → Int32} {b : Tx} {A : List (Option Nat)} {k i j : Nat} {q : Nat × Nat × Nat} (h1 : A.getD q.1 none = some i) (h2 : A.getD q.2.2 none = some j) (h : hlB wd b i q.2.1 j = true) : lkP wd b A k q = true := by
  unfold lkP
  rw [h1, h2]
  simp [h]
theorem lk_f {wd : Nat → Int32} {b : Tx} {A : List (Option Nat)} {k i j : Nat} {q : Nat × Nat × Nat} (hk : q.1 = k ∨ q.2.2 = k) (h1 : A.getD q.1 none = some i) (h2 : A.getD q.2.2 none = some j) (h : hlB wd b i q.2.1 j = false) : lkP wd b A k q = false := by
  unfold lkP
  rw [h1, h2]
  rcases hk with z | z <;> simp [h, z]
def enc (o : Option Nat) : Int32 := match o with
  | none => -1
  | some p => nI p
theorem any_no {α : Type} {l : List α} {d : α} {p : α → Bool} (h : ∀ k, k < l.length → p (l.getD k d) = false) : l.any p = false := by
  rw [List.any_eq_false]
  intro x hx
  obtain ⟨k, hk, e⟩ := List.getElem_of_mem hx
  have := h k hk
  rw [List.getD_eq_getElem?_getD, List.getElem?_eq_getElem hk] at this
  rw [← e]
  simpa using this
theorem any_yes {α : Type} {l : List α} {d : α} {p : α → Bool} {k : Nat} (hk : k < l.length) (h : p (l.getD k d) = true) : l.any p = true := by
  rw [List.any_eq_true]
  rw [List.getD_eq_getElem?_getD, List.getElem?_eq_getElem hk] at h
  exact ⟨l[k], List.getElem_mem hk, h⟩
theorem all_yes {α : Type} {l : List α} {d : α} {p : α → Bool} (h : ∀ k, k < l.length → p (l.getD k d) = true) : l.all p = true := by
  rw [List.all_eq_true]
  intro x hx
  obtain ⟨k, hk, e⟩ := List.getElem_of_mem hx
  have := h k hk
  rw [List.getD_eq_getElem?_getD, List.getElem?_eq_getElem hk] at this
  rw [← e]
  exact this
theorem all_no {α : Type} {l : List α} {d : α} {p : α → Bool} {k : Nat} (hk : k < l.length) (h : p (l.getD k d) = false) : l.all p = false := by
  rw [List.all_eq_false]
  rw [List.getD_eq_getElem?_getD, List.getElem?_eq_getElem hk] at h
  have h : p l[k] = false := h
  exact ⟨l[k], List.getElem_mem hk, by simp [h]⟩
theorem getD_mem {α : Type} {l : List α} {d : α} {k : Nat} (hk : k < l.length) : l.getD k d ∈ l := by
  rw [List.getD_eq_getElem?_getD, List.getElem?_eq_getElem hk]
  exact List.getElem_mem hk
theorem hl_n1 {wd : Nat → Int32} {q : Nat × Nat × Nat} {i j w : Nat} (h : ¬ q.1 = i) : (decide (q.1 = i) && (decide (q.2.2 = j) && underB wd q.2.1 w)) = false := by simp [h]
theorem hl_n2 {wd : Nat → Int32} {q : Nat × Nat × Nat} {i j w : Nat} (h : ¬ q.2.2 = j) : (decide (q.1 = i) && (decide (q.2.2 = j) && underB wd q.2.1 w)) = false := by simp [h]
theorem hl_n3 {wd : Nat → Int32} {q : Nat × Nat × Nat} {i j w : Nat} (h : underB wd q.2.1 w = false) : (decide (q.1 = i) && (decide (q.2.2 = j) && underB wd q.2.1 w)) = false := by simp [h]
theorem hl_y {wd : Nat → Int32} {q : Nat × Nat × Nat} {i j w : Nat} (h1 : q.1 = i) (h2 : q.2.2 = j) (h : underB wd q.2.1 w = true) : (decide (q.1 = i) && (decide (q.2.2 = j) && underB wd q.2.1 w)) = true := by simp [h, h1, h2]
section COPY
variable {p : Program} {l : Launch} {e : Env} {R : Room} {s : State} {m : MethodId} {args : Array Value} {below : List Frame} {meth : Method} {c : Code} {H : Heap} {locs : List Loc} {cells slots : Nat} {Q : State → Prop}
variable {cc : ByteArray} {pc nL : Nat} {ls : Array Slot} {rest : List Value} {G : pG} {ws : va_W} {own : String} {a index : Nat}
theorem cp_i (S : CallFix p m c cc nL s args lw_all own) (hml : nL = ls.size) (hW : pM G ws s H locs) (hl : Cond.methodLink own index arraycopyName ∈ lw_all) (hnat : Cond.native arraycopyName ∈ lw_all) (hst : Cond.static arraycopyName ∈ lw_all) (hini : Cond.initialized "java/lang/System" ∈ lw_all) {a0 : Nat} {c0 c1 : ClassId} {n0 n1 : Nat} {f g : Nat → Int32} (hm : (a0, .inl (c0, n0, .inl f)) ∈ ws) (q1 : Nat) (he : ws[q1]? = some (a, .inl (c1, n1, .inl g))) (t0 t1 : Nat) (ht0 : (pT G)[t0]? = some (c0, .int)) (ht1 : (pT G)[t1]? = some (c1, .int)) {i j k : Nat} (hi : i ≤ 65536) (hj : j ≤ 65536) (hk : k ≤ 65536) (h4 : i + k ≤ n0) (h5 : j + k ≤ n1) (hfr : 1 ≤ R.frames) (hlo : (rest.map fun v => v.category).sum + (nativeFrameWords "java/lang/System" "arraycopy" 5 + 11) ≤ R.locals) (hdg : decode cc pc = .ok (.invokestatic index, 3))
    (kk : ∀ (H1 : Heap) (locs1 : List Loc), pM G (ws.set q1 (a, .inl (c1, n1, .inl (va_cpy f g i j k)))) s H1 locs1 → W p l e R s m args below meth c H1 locs1 cells slots Q (F0 m (pc + 3) ls rest)) : W p l e R s m args below meth c H locs cells slots Q (F0 m pc ls (.int (nI k) :: .int (nI j) :: .ref a :: .int (nI i) :: .ref a0 :: rest)) := by
  obtain ⟨q0, hq⟩ := List.getElem?_of_mem hm
  have e1 := nI_clamp (n := i) (by omega)
  have e2 := nI_clamp (n := j) (by omega)
  have e3 := nI_clamp (n := k) (by omega)
  refine va_copyi S.1 S.2.1 (S.2.2.1.trans hml) S.2.2.2.1 (S.2.2.2.2 _ hl) (S.2.2.2.2 _ hnat) (S.2.2.2.2 _ hst) (S.2.2.2.2 _ hini) hW.1 hW.2.1 hW.2.2.1 hW.2.2.2.1 q0 q1 t0 t1 hq he ht0 ht1 rfl (nI_pos (by omega)) (nI_pos (by omega)) (nI_pos (by omega)) (by rw [e1, e3]; exact h4) (by rw [e2, e3]; exact h5) (fun _ _ => rfl) hfr hlo hdg (fun H1 locs1 h1 h2 h3 => ?_)
  rw [e1, e2, e3] at h1 h2
  exact kk H1 locs1 ⟨hW.1, h1, h2, h3, hW.2.2.2.2⟩
end COPY

set_option maxRecDepth 100000 in
set_option maxHeartbeats 4000000 in
theorem mX3_hasLink (l : Launch) (G : pG) (ad : Nat → Nat) (x : XV) (T : va_W) (pb : Nat) (b : Tx) (hb9 : HT G T pb b) (h2 : x.2.2.2.1 2 = some pb) (nW : Nat) (hwd : WdOk (x.2.1 4) nW) (hW60 : nW ≤ 60) (hokb : TxOk nW 8 10 b) (i w j : Nat) (hi : i < 8) (hw : w < nW) (hj : j < 8) : Met l yX3_hasLink (ws_ yX3_hasLink cX3_hasLink 7 (some .boolean)) ({ frames := 1, cells := 0, slots := 0, locals := 23 } : Room) (va_Pc [.ref (ad 5), .int (nI i), .int (nI w), .int (nI j)] (fun U => pW G (HWl G ad x ++ T) U)) (va_Qi (fun r (_ : Unit) => (r = 1 ∧ hlB (x.2.1 4) b i w j = true) ∨ (r = 0 ∧ hlB (x.2.1 4) b i w j = false)) (fun (u : Unit) t9 => pW G (HWl G ad x ++ T) t9) (pA G)) 0 0 (pA G) := by
  refine mw (by decide) (Nat.le_of_ble_eq_true rfl) ?_
  intro pp ee R s m below meth c ls Q hF hRt hLk hnm hR hQ hW hl
  have hx := hF.1
  have hb := hF.2.1
  have hts := hF.2.2.2.2
  have hR1 : R.frames = 1 := by rw [hR]
  have hR2 : R.cells = 0 := by rw [hR]
  have hR3 : R.slots = 0 := by rw [hR]
  have hR4 : R.locals = 23 := by rw [hR]
  have hl : lv_has ls 7 [(0, .ref (ad 5)), (1, .int (nI i)), (2, .int (nI w)), (3, .int (nI j))] := hl
  have hW : pM G (HWl G ad x ++ T) s s.heap [] := hW
  obtain ⟨anb, awb, alb, nfb, lfb, wfb, hb1, hb2, hb3, hb4, hb5⟩ := hb9
  have hb10 := hokb.2.2.2.1
  refine lv_iconst (v := 0) hx hb dX3_hasLink_0 (by decide) ?_
  refine lv_istore (lv' := [(4, .int 0), (0, .ref (ad 5)), (1, .int (nI i)), (2, .int (nI w)), (3, .int (nI j))]) hx hb dX3_hasLink_1 hl (by decide) rfl (fun ls hl => ?_)
  refine lv_iconst (v := 0) hx hb dX3_hasLink_3 (by decide) ?_
  refine lv_istore (lv' := [(5, .int 0), (4, .int 0), (0, .ref (ad 5)), (1, .int (nI i)), (2, .int (nI w)), (3, .int (nI j))]) hx hb dX3_hasLink_4 hl (by decide) rfl (fun ls hl => ?_)
  have loop_6 : ∀ (nn : Nat) (k : Nat) (H : Heap) (locs : List Loc) (ls : Array Slot), b.2.2.length - k < nn → (k ≤ b.2.2.length) → (∀ k9, k9 < k → (fun l : Nat × Nat × Nat => decide (l.1 = i) && (decide (l.2.2 = j) && underB (x.2.1 4) l.2.1 w)) (b.2.2.getD k9 (0, 0, 0)) = false) → pM G (HWl G ad x ++ T) s H locs → lv_has ls 7 [(0, .ref (ad 5)), (1, .int (nI i)), (2, .int (nI w)), (3, .int (nI j)), (4, .int 0), (5, .int (nI k))] → W pp l ee R s m ([.ref (ad 5), .int (nI i), .int (nI w), .int (nI j)] : List Value).toArray below meth c H locs 0 0 Q (F0 m 6 ls []) := by
    intro nn
    induction nn with
    | zero => intro k H locs ls hm; exact absurd hm (Nat.not_lt_zero _)
    | succ nn ih =>
      intro k H locs ls hm hk hg hW hl
      refine lv_iload hx hb dX3_hasLink_6 (lv_at hl 5 rfl) ?_
      refine lv_aload_n hx hb dX3_hasLink_8 rfl (lv_at hl 0 rfl) ?_
      refine gH5_in hF hW q216 (v := some pb) (h2) dX3_hasLink_9 ?_
      refine gt hF hW (ms_r hb1) (ci := 4) rfl in_X10 4 (by decide) q557 rfl (v := .int (nI b.2.2.length)) rfl dX3_hasLink_12 ?_
      refine lv_icmp_ge (tgt := 82) hx hb dX3_hasLink_15 (by decide) (fun c_15 => ?_) (fun c_15 => ?_)
      · refine lv_iload hx hb dX3_hasLink_82 (lv_at hl 4 rfl) ?_
        exact re_z hF hRt hLk hQ (by omega) (by omega) (by decide) dX3_hasLink_84 () (Or.inr ⟨rfl, any_no (d := (0, 0, 0)) (fun k9 h9 => hg k9 (by have := le_le c_15; omega))⟩) hW
      · have hkl : k < b.2.2.length := nle_lt c_15
        obtain ⟨la, hl1, hl2⟩ := hb5.2.2 k hkl
        have hli := hokb.2.2.2.2.2 _ (getD_mem (d := (0, 0, 0)) hkl)
        have hlb := hokb.2.2.1
        generalize hq : b.2.2.getD k (0, 0, 0) = q at hl2 hli
        have hl2 : (la, .inr (5, [.int (nI q.1), .int (nI q.2.1), .int (nI q.2.2)])) ∈ T := hl2
        refine lv_iload hx hb dX3_hasLink_18 (lv_at hl 4 rfl) ?_
        refine lv_if_ne (tgt := 82) hx hb dX3_hasLink_20 (by decide) (fun c_20 => absurd c_20 (by decide)) (fun c_20 => ?_)
        refine lv_aload_n hx hb dX3_hasLink_23 rfl (lv_at hl 0 rfl) ?_
        refine gH5_in hF hW q216 (v := some pb) (h2) dX3_hasLink_24 ?_
        refine gt hF hW (ms_r hb1) (ci := 4) rfl in_X10 2 (by decide) q550 rfl (v := .ref alb) rfl dX3_hasLink_27 ?_
        refine lv_iload hx hb dX3_hasLink_30 (lv_at hl 5 rfl) ?_
        refine al_r hF hW (ms_r hb4) 10 rfl (j := k) (rfl) (by have := hokb.2.2.2.1; omega) (by decide) (r := la) (hl1) dX3_hasLink_32 ?_
        refine lv_astore (lv' := [(6, .ref la), (0, .ref (ad 5)), (1, .int (nI i)), (2, .int (nI w)), (3, .int (nI j)), (4, .int 0), (5, .int (nI k))]) hx hb dX3_hasLink_33 hl (by decide) rfl (fun ls hl => ?_)
        refine lv_aload hx hb dX3_hasLink_35 (lv_at hl 0 rfl) ?_
        refine gt hF hW (ms_r hl2) (ci := 5) rfl in_X11 0 (by decide) q621 rfl (v := .int (nI q.1)) rfl dX3_hasLink_37 ?_
        refine lv_iload_n hx hb dX3_hasLink_40 rfl (lv_at hl 2 rfl) ?_
        refine lv_icmp_ne (tgt := 73) hx hb dX3_hasLink_41 (by decide) (fun c_41 => ?_) (fun c_41 => ?_)
        · refine lv_iconst (v := 0) hx hb dX3_hasLink_73 (by decide) ?_
          refine lv_istore (lv' := [(4, .int 0), (6, .ref la), (0, .ref (ad 5)), (1, .int (nI i)), (2, .int (nI w)), (3, .int (nI j)), (5, .int (nI k))]) hx hb dX3_hasLink_74 hl (by decide) rfl (fun ls hl => ?_)
          refine lv_iinc (v := nI (k + 1)) (lv' := [(5, .int (nI (k + 1))), (4, .int 0), (6, .ref la), (0, .ref (ad 5)), (1, .int (nI i)), (2, .int (nI w)), (3, .int (nI j))]) hx hb dX3_hasLink_76 hl (k := 6) rfl (nI_1 _) (by decide) rfl (fun ls hl => ?_)
          refine lv_goto (tgt := 6) hx hb dX3_hasLink_79 (by decide) ?_
          exact ih (k + 1) H locs ls (by omega) (by omega) (fun k9 h9 => if h : k9 = k then h ▸ (by show (decide ((b.2.2.getD k (0, 0, 0)).1 = i) && (decide ((b.2.2.getD k (0, 0, 0)).2.2 = j) && underB (x.2.1 4) (b.2.2.getD k (0, 0, 0)).2.1 w)) = false; rw [hq]; exact hl_n1 (fun z => c_41 (by rw [z]))) else hg k9 (by omega)) hW (lv_sub hl [3, 4, 5, 6, 1, 0] rfl)
        · refine lv_aload hx hb dX3_hasLink_44 (lv_at hl 0 rfl) ?_
          refine gt hF hW (ms_r hl2) (ci := 5) rfl in_X11 2 (by decide) q627 rfl (v := .int (nI q.2.2)) rfl dX3_hasLink_46 ?_
          refine lv_iload_n hx hb dX3_hasLink_49 rfl (lv_at hl 4 rfl) ?_
          refine lv_icmp_ne (tgt := 73) hx hb dX3_hasLink_50 (by decide) (fun c_50 => ?_) (fun c_50 => ?_)
          · refine lv_iconst (v := 0) hx hb dX3_hasLink_73 (by decide) ?_
            refine lv_istore (lv' := [(4, .int 0), (6, .ref la), (0, .ref (ad 5)), (1, .int (nI i)), (2, .int (nI w)), (3, .int (nI j)), (5, .int (nI k))]) hx hb dX3_hasLink_74 hl (by decide) rfl (fun ls hl => ?_)
            refine lv_iinc (v := nI (k + 1)) (lv' := [(5, .int (nI (k + 1))), (4, .int 0), (6, .ref la), (0, .ref (ad 5)), (1, .int (nI i)), (2, .int (nI w)), (3, .int (nI j))]) hx hb dX3_hasLink_76 hl (k := 6) rfl (nI_1 _) (by decide) rfl (fun ls hl => ?_)
            refine lv_goto (tgt := 6) hx hb dX3_hasLink_79 (by decide) ?_
            exact ih (k + 1) H locs ls (by omega) (by omega) (fun k9 h9 => if h : k9 = k then h ▸ (by show (decide ((b.2.2.getD k (0, 0, 0)).1 = i) && (decide ((b.2.2.getD k (0, 0, 0)).2.2 = j) && underB (x.2.1 4) (b.2.2.getD k (0, 0, 0)).2.1 w)) = false; rw [hq]; exact hl_n2 (fun z => c_50 (by rw [z]))) else hg k9 (by omega)) hW (lv_sub hl [3, 4, 5, 6, 1, 0] rfl)
          · refine lv_aload_n hx hb dX3_hasLink_53 rfl (lv_at hl 1 rfl) ?_
            refine gH5_this_0 hF hW q224 dX3_hasLink_54 ?_
            refine lv_aload hx hb dX3_hasLink_57 (lv_at hl 0 rfl) ?_
            refine gt hF hW (ms_r hl2) (ci := 5) rfl in_X11 1 (by decide) q624 rfl (v := .int (nI q.2.1)) rfl dX3_hasLink_59 ?_
            refine lv_iload_n hx hb dX3_hasLink_62 rfl (lv_at hl 3 rfl) ?_
            refine cl_i (ru_VN (As := [.int (nI q.2.1), .int (nI w)]) (rest := []) hF (mX0_isUnder l G ad x T q.2.1 w nW hwd hW60 hli.2.1 (by omega)) ⟨va_cnB 2 hts (lw_meth q513) rfl rfl rfl (hW.2.2.2.2.2.1 _ (List.mem_of_getElem? (i := 25) rfl)) (hts _ q59) (by decide +kernel) ⟨lb hR1 rfl, lb hR4 rfl⟩, hts _ q512, hts _ qs10⟩ hW (List.mem_of_getElem? (i := 0) rfl) (ci := 0) rfl rfl rfl hl.1 rfl (lv_room (Nat.le_of_ble_eq_true rfl)) dX3_hasLink_63 ⟨by omega, by omega⟩) hW (fun r_1 u_2 H locs h_3 hW => ?_)
            have hW : pM G (HWl G ad x ++ T) s _ _ := hW
            rcases h_3 with ⟨rfl, b_63⟩ | ⟨rfl, b_63⟩
            · refine lv_if_eq (tgt := 73) hx hb dX3_hasLink_66 (by decide) (fun c_66 => absurd c_66 (by decide)) (fun c_66 => ?_)
              refine lv_iconst (v := 1) hx hb dX3_hasLink_69 (by decide) ?_
              refine lv_goto (tgt := 74) hx hb dX3_hasLink_70 (by decide) ?_
              refine lv_istore (lv' := [(4, .int 1), (6, .ref la), (0, .ref (ad 5)), (1, .int (nI i)), (2, .int (nI w)), (3, .int (nI j)), (5, .int (nI k))]) hx hb dX3_hasLink_74 hl (by decide) rfl (fun ls hl => ?_)
              refine lv_iinc (v := nI (k + 1)) (lv' := [(5, .int (nI (k + 1))), (4, .int 1), (6, .ref la), (0, .ref (ad 5)), (1, .int (nI i)), (2, .int (nI w)), (3, .int (nI j))]) hx hb dX3_hasLink_76 hl (k := 6) rfl (nI_1 _) (by decide) rfl (fun ls hl => ?_)
              refine lv_goto (tgt := 6) hx hb dX3_hasLink_79 (by decide) ?_
              refine lv_iload hx hb dX3_hasLink_6 (lv_at hl 0 rfl) ?_
              refine lv_aload_n hx hb dX3_hasLink_8 rfl (lv_at hl 3 rfl) ?_
              refine gH5_in hF hW q216 (v := some pb) (h2) dX3_hasLink_9 ?_
              refine gt hF hW (ms_r hb1) (ci := 4) rfl in_X10 4 (by decide) q557 rfl (v := .int (nI b.2.2.length)) rfl dX3_hasLink_12 ?_
              refine lv_icmp_ge (tgt := 82) hx hb dX3_hasLink_15 (by decide) (fun c_15 => ?_) (fun c_15 => ?_)
              · refine lv_iload hx hb dX3_hasLink_82 (lv_at hl 1 rfl) ?_
                exact re_z hF hRt hLk hQ (by omega) (by omega) (by decide) dX3_hasLink_84 () (Or.inl ⟨rfl, any_yes (d := (0, 0, 0)) hkl (by show (decide ((b.2.2.getD k (0, 0, 0)).1 = i) && (decide ((b.2.2.getD k (0, 0, 0)).2.2 = j) && underB (x.2.1 4) (b.2.2.getD k (0, 0, 0)).2.1 w)) = true; rw [hq]; exact hl_y (eq_eq c_41) (eq_eq c_50) b_63)⟩) hW
              · refine lv_iload hx hb dX3_hasLink_18 (lv_at hl 1 rfl) ?_
                refine lv_if_ne (tgt := 82) hx hb dX3_hasLink_20 (by decide) (fun c_20 => ?_) (fun c_20 => absurd c_20 (by decide))
                refine lv_iload hx hb dX3_hasLink_82 (lv_at hl 1 rfl) ?_
                exact re_z hF hRt hLk hQ (by omega) (by omega) (by decide) dX3_hasLink_84 () (Or.inl ⟨rfl, any_yes (d := (0, 0, 0)) hkl (by show (decide ((b.2.2.getD k (0, 0, 0)).1 = i) && (decide ((b.2.2.getD k (0, 0, 0)).2.2 = j) && underB (x.2.1 4) (b.2.2.getD k (0, 0, 0)).2.1 w)) = true; rw [hq]; exact hl_y (eq_eq c_41) (eq_eq c_50) b_63)⟩) hW
            · refine lv_if_eq (tgt := 73) hx hb dX3_hasLink_66 (by decide) (fun c_66 => ?_) (fun c_66 => absurd c_66 (by decide))
              refine lv_iconst (v := 0) hx hb dX3_hasLink_73 (by decide) ?_
              refine lv_istore (lv' := [(4, .int 0), (6, .ref la), (0, .ref (ad 5)), (1, .int (nI i)), (2, .int (nI w)), (3, .int (nI j)), (5, .int (nI k))]) hx hb dX3_hasLink_74 hl (by decide) rfl (fun ls hl => ?_)
              refine lv_iinc (v := nI (k + 1)) (lv' := [(5, .int (nI (k + 1))), (4, .int 0), (6, .ref la), (0, .ref (ad 5)), (1, .int (nI i)), (2, .int (nI w)), (3, .int (nI j))]) hx hb dX3_hasLink_76 hl (k := 6) rfl (nI_1 _) (by decide) rfl (fun ls hl => ?_)
              refine lv_goto (tgt := 6) hx hb dX3_hasLink_79 (by decide) ?_
              exact W.widen (by omega) (by omega) (ih (k + 1) H locs ls (by omega) (by omega) (fun k9 h9 => if h : k9 = k then h ▸ (by show (decide ((b.2.2.getD k (0, 0, 0)).1 = i) && (decide ((b.2.2.getD k (0, 0, 0)).2.2 = j) && underB (x.2.1 4) (b.2.2.getD k (0, 0, 0)).2.1 w)) = false; rw [hq]; exact hl_n3 b_63) else hg k9 (by omega)) hW (lv_sub hl [3, 4, 5, 6, 1, 0] rfl))
  exact loop_6 _ 0 _ _ _ (Nat.lt_succ_self _) (Nat.zero_le _) (fun k9 h9 => absurd h9 (Nat.not_lt_zero _)) hW (lv_sub hl [2, 3, 4, 5, 1, 0] rfl)

set_option maxRecDepth 100000 in
set_option maxHeartbeats 4000000 in
theorem mX3_isLinked (l : Launch) (G : pG) (ad : Nat → Nat) (x : XV) (T : va_W) (pa pb : Nat) (a b : Tx) (ha9 : HT G T pa a) (hb9 : HT G T pb b) (h1 : x.2.2.2.1 1 = some pa) (h2 : x.2.2.2.1 2 = some pb) (nW : Nat) (hwd : WdOk (x.2.1 4) nW) (hW60 : nW ≤ 60) (hoka : TxOk nW 8 10 a) (hokb : TxOk nW 8 10 b) (A : List (Option Nat)) (hto : ∀ i, i < 8 → x.2.1 2 i = enc (A.getD i none)) (hA8 : ∀ i p, A.getD i none = some p → p < 8) (k : Nat) (hk8 : k < 8) : Met l yX3_isLinked (ws_ yX3_isLinked cX3_isLinked 5 (some .boolean)) ({ frames := 2, cells := 0, slots := 0, locals := 49 } : Room) (va_Pc [.ref (ad 5), .int (nI k)] (fun U => pW G (HWl G ad x ++ T) U)) (va_Qi (fun r (_ : Unit) => (r = 1 ∧ lkB (x.2.1 4) a b A k = true) ∨ (r = 0 ∧ lkB (x.2.1 4) a b A k = false)) (fun (u : Unit) t9 => pW G (HWl G ad x ++ T) t9) (pA G)) 0 0 (pA G) := by
  refine mw (by decide) (Nat.le_of_ble_eq_true rfl) ?_
  intro pp ee R s m below meth c ls Q hF hRt hLk hnm hR hQ hW hl
  have hx := hF.1
  have hb := hF.2.1
  have hts := hF.2.2.2.2
  have hR1 : R.frames = 2 := by rw [hR]
  have hR2 : R.cells = 0 := by rw [hR]
  have hR3 : R.slots = 0 := by rw [hR]
  have hR4 : R.locals = 49 := by rw [hR]
  have hl : lv_has ls 5 [(0, .ref (ad 5)), (1, .int (nI k))] := hl
  have hW : pM G (HWl G ad x ++ T) s s.heap [] := hW
  obtain ⟨ana, awa, ala, nfa, lfa, wfa, ha1, ha2, ha3, ha4, ha5⟩ := ha9
  have ha10 := hoka.2.2.2.1
  have ha8 := hoka.2.2.1
  refine lv_iconst (v := 1) hx hb dX3_isLinked_0 (by decide) ?_
  refine lv_istore_n (lv' := [(2, .int 1), (0, .ref (ad 5)), (1, .int (nI k))]) hx hb dX3_isLinked_1 rfl hl (by decide) rfl (fun ls hl => ?_)
  refine lv_iconst (v := 0) hx hb dX3_isLinked_2 (by decide) ?_
  refine lv_istore_n (lv' := [(3, .int 0), (2, .int 1), (0, .ref (ad 5)), (1, .int (nI k))]) hx hb dX3_isLinked_3 rfl hl (by decide) rfl (fun ls hl => ?_)
  have loop_4 : ∀ (nn : Nat) (n : Nat) (H : Heap) (locs : List Loc) (ls : Array Slot), a.2.2.length - n < nn → (n ≤ a.2.2.length) → (∀ k9, k9 < n → lkP (x.2.1 4) b A k (a.2.2.getD k9 (0, 0, 0)) = true) → pM G (HWl G ad x ++ T) s H locs → lv_has ls 5 [(0, .ref (ad 5)), (1, .int (nI k)), (2, .int 1), (3, .int (nI n))] → W pp l ee R s m ([.ref (ad 5), .int (nI k)] : List Value).toArray below meth c H locs 0 0 Q (F0 m 4 ls []) := by
    intro nn
    induction nn with
    | zero => intro n H locs ls hm; exact absurd hm (Nat.not_lt_zero _)
    | succ nn ih =>
      intro n H locs ls hm hn hg hW hl
      refine lv_iload_n hx hb dX3_isLinked_4 rfl (lv_at hl 3 rfl) ?_
      refine lv_aload_n hx hb dX3_isLinked_5 rfl (lv_at hl 0 rfl) ?_
      refine gH5_what hF hW q215 (v := some pa) (h1) dX3_isLinked_6 ?_
      refine gt hF hW (ms_r ha1) (ci := 4) rfl in_X10 4 (by decide) q557 rfl (v := .int (nI a.2.2.length)) rfl dX3_isLinked_9 ?_
      refine lv_icmp_ge (tgt := 115) hx hb dX3_isLinked_12 (by decide) (fun c_12 => ?_) (fun c_12 => ?_)
      · refine lv_iload_n hx hb dX3_isLinked_115 rfl (lv_at hl 2 rfl) ?_
        exact re_z hF hRt hLk hQ (by omega) (by omega) (by decide) dX3_isLinked_116 () (Or.inl ⟨rfl, all_yes (d := (0, 0, 0)) (fun k9 h9 => hg k9 (by have := le_le c_12; omega))⟩) hW
      · have hkl : n < a.2.2.length := nle_lt c_12
        obtain ⟨la, hl1, hl2⟩ := ha5.2.2 n hkl
        have hli := hoka.2.2.2.2.2 _ (getD_mem (d := (0, 0, 0)) hkl)
        generalize hq : a.2.2.getD n (0, 0, 0) = q at hl2 hli
        have hl2 : (la, .inr (5, [.int (nI q.1), .int (nI q.2.1), .int (nI q.2.2)])) ∈ T := hl2
        refine lv_iload_n hx hb dX3_isLinked_15 rfl (lv_at hl 2 rfl) ?_
        refine lv_if_eq (tgt := 115) hx hb dX3_isLinked_16 (by decide) (fun c_16 => absurd c_16 (by decide)) (fun c_16 => ?_)
        refine lv_aload_n hx hb dX3_isLinked_19 rfl (lv_at hl 0 rfl) ?_
        refine gH5_what hF hW q215 (v := some pa) (h1) dX3_isLinked_20 ?_
        refine gt hF hW (ms_r ha1) (ci := 4) rfl in_X10 2 (by decide) q550 rfl (v := .ref ala) rfl dX3_isLinked_23 ?_
        refine lv_iload_n hx hb dX3_isLinked_26 rfl (lv_at hl 3 rfl) ?_
        refine al_r hF hW (ms_r ha4) 10 rfl (j := n) (rfl) (by omega) (by decide) (r := la) (hl1) dX3_isLinked_27 ?_
        refine lv_astore (lv' := [(4, .ref la), (0, .ref (ad 5)), (1, .int (nI k)), (2, .int 1), (3, .int (nI n))]) hx hb dX3_isLinked_28 hl (by decide) rfl (fun ls hl => ?_)
        refine lv_aload hx hb dX3_isLinked_30 (lv_at hl 0 rfl) ?_
        refine gt hF hW (ms_r hl2) (ci := 5) rfl in_X11 0 (by decide) q621 rfl (v := .int (nI q.1)) rfl dX3_isLinked_32 ?_
        refine lv_iload_n hx hb dX3_isLinked_35 rfl (lv_at hl 2 rfl) ?_
        refine lv_icmp_eq (tgt := 48) hx hb dX3_isLinked_36 (by decide) (fun c_36 => ?_) (fun c_36 => ?_)
        · refine lv_aload_n hx hb dX3_isLinked_48 rfl (lv_at hl 1 rfl) ?_
          refine gH5_to hF hW q218 dX3_isLinked_49 ?_
          refine lv_aload hx hb dX3_isLinked_52 (lv_at hl 0 rfl) ?_
          refine gt hF hW (ms_r hl2) (ci := 5) rfl in_X11 0 (by decide) q621 rfl (v := .int (nI q.1)) rfl dX3_isLinked_54 ?_
          refine lH6 hF hW (j := q.1) (rfl) (by omega) (v := x.2.1 2 q.1) (rfl) dX3_isLinked_57 ?_
          cases hA1 : A.getD q.1 none with
          | none =>
            refine lv_eqi (show x.2.1 2 q.1 = -1 from (hto q.1 (by omega)).trans (by rw [hA1]; rfl)) ?_
            refine lv_iconst (v := (-1)) hx hb dX3_isLinked_58 (by decide) ?_
            refine lv_icmp_eq (tgt := 109) hx hb dX3_isLinked_59 (by decide) (fun c_59 => ?_) (fun c_59 => absurd c_59 (by decide))
            refine lv_iinc (v := nI (n + 1)) (lv' := [(3, .int (nI (n + 1))), (4, .ref la), (0, .ref (ad 5)), (1, .int (nI k)), (2, .int 1)]) hx hb dX3_isLinked_109 hl (k := 4) rfl (nI_1 _) (by decide) rfl (fun ls hl => ?_)
            refine lv_goto (tgt := 4) hx hb dX3_isLinked_112 (by decide) ?_
            exact ih (n + 1) H locs ls (by omega) (by omega) (fun k9 h9 => if h : k9 = n then h ▸ (by show lkP _ _ _ _ (a.2.2.getD n (0, 0, 0)) = true; rw [hq]; exact lk_0 hA1) else hg k9 (by omega)) hW (lv_sub hl [2, 3, 4, 0] rfl)
          | some i0 =>
            refine lv_eqi (show x.2.1 2 q.1 = nI i0 from (hto q.1 (by omega)).trans (by rw [hA1]; rfl)) ?_
            refine lv_iconst (v := (-1)) hx hb dX3_isLinked_58 (by decide) ?_
            refine lv_icmp_eq (tgt := 109) hx hb dX3_isLinked_59 (by decide) (fun c_59 => absurd c_59 (nI_ne_m1 (by have := hA8 _ _ hA1; omega))) (fun c_59 => ?_)
            refine lv_aload_n hx hb dX3_isLinked_62 rfl (lv_at hl 1 rfl) ?_
            refine gH5_to hF hW q218 dX3_isLinked_63 ?_
            refine lv_aload hx hb dX3_isLinked_66 (lv_at hl 0 rfl) ?_
            refine gt hF hW (ms_r hl2) (ci := 5) rfl in_X11 2 (by decide) q627 rfl (v := .int (nI q.2.2)) rfl dX3_isLinked_68 ?_
            refine lH6 hF hW (j := q.2.2) (rfl) (by omega) (v := x.2.1 2 q.2.2) (rfl) dX3_isLinked_71 ?_
            cases hA2 : A.getD q.2.2 none with
            | none =>
              refine lv_eqi (show x.2.1 2 q.2.2 = -1 from (hto q.2.2 (by omega)).trans (by rw [hA2]; rfl)) ?_
              refine lv_iconst (v := (-1)) hx hb dX3_isLinked_72 (by decide) ?_
              refine lv_icmp_ne (tgt := 79) hx hb dX3_isLinked_73 (by decide) (fun c_73 => absurd c_73 (by decide)) (fun c_73 => ?_)
              refine lv_goto (tgt := 109) hx hb dX3_isLinked_76 (by decide) ?_
              refine lv_iinc (v := nI (n + 1)) (lv' := [(3, .int (nI (n + 1))), (4, .ref la), (0, .ref (ad 5)), (1, .int (nI k)), (2, .int 1)]) hx hb dX3_isLinked_109 hl (k := 4) rfl (nI_1 _) (by decide) rfl (fun ls hl => ?_)
              refine lv_goto (tgt := 4) hx hb dX3_isLinked_112 (by decide) ?_
              exact ih (n + 1) H locs ls (by omega) (by omega) (fun k9 h9 => if h : k9 = n then h ▸ (by show lkP _ _ _ _ (a.2.2.getD n (0, 0, 0)) = true; rw [hq]; exact lk_1 hA2) else hg k9 (by omega)) hW (lv_sub hl [2, 3, 4, 0] rfl)
            | some j0 =>
              refine lv_eqi (show x.2.1 2 q.2.2 = nI j0 from (hto q.2.2 (by omega)).trans (by rw [hA2]; rfl)) ?_
              refine lv_iconst (v := (-1)) hx hb dX3_isLinked_72 (by decide) ?_
              refine lv_icmp_ne (tgt := 79) hx hb dX3_isLinked_73 (by decide) (fun c_73 => ?_) (fun c_73 => absurd c_73 (nI_ne_m1 (by have := hA8 _ _ hA2; omega)))
              refine lv_aload_n hx hb dX3_isLinked_79 rfl (lv_at hl 1 rfl) ?_
              refine lv_aload_n hx hb dX3_isLinked_80 rfl (lv_at hl 1 rfl) ?_
              refine gH5_to hF hW q218 dX3_isLinked_81 ?_
              refine lv_aload hx hb dX3_isLinked_84 (lv_at hl 0 rfl) ?_
              refine gt hF hW (ms_r hl2) (ci := 5) rfl in_X11 0 (by decide) q621 rfl (v := .int (nI q.1)) rfl dX3_isLinked_86 ?_
              refine lH6 hF hW (j := q.1) (rfl) (by omega) (v := nI i0) ((hto q.1 (by omega)).trans (by rw [hA1]; rfl)) dX3_isLinked_89 ?_
              refine lv_aload hx hb dX3_isLinked_90 (lv_at hl 0 rfl) ?_
              refine gt hF hW (ms_r hl2) (ci := 5) rfl in_X11 1 (by decide) q624 rfl (v := .int (nI q.2.1)) rfl dX3_isLinked_92 ?_
              refine lv_aload_n hx hb dX3_isLinked_95 rfl (lv_at hl 1 rfl) ?_
              refine gH5_to hF hW q218 dX3_isLinked_96 ?_
              refine lv_aload hx hb dX3_isLinked_99 (lv_at hl 0 rfl) ?_
              refine gt hF hW (ms_r hl2) (ci := 5) rfl in_X11 2 (by decide) q627 rfl (v := .int (nI q.2.2)) rfl dX3_isLinked_101 ?_
              refine lH6 hF hW (j := q.2.2) (rfl) (by omega) (v := nI j0) ((hto q.2.2 (by omega)).trans (by rw [hA2]; rfl)) dX3_isLinked_104 ?_
              refine cl_i (ru_V (As := [.int (nI i0), .int (nI q.2.1), .int (nI j0)]) (rest := []) hF (mX3_hasLink l G ad x T pb b hb9 h2 nW hwd hW60 hokb i0 q.2.1 j0 (hA8 _ _ hA1) hli.2.1 (hA8 _ _ hA2)) (cwV 3 hts (lw_V q764 q766 qs21 q65 q767) rfl rfl rfl (by decide +kernel) ⟨lb hR1 rfl, lb hR4 rfl⟩) hW (List.mem_of_getElem? (i := 5) rfl) (ci := 3) rfl rfl rfl hl.1 rfl (lv_room (Nat.le_of_ble_eq_true rfl)) dX3_isLinked_105 ⟨by omega, by omega⟩) hW (fun r_1 u_2 H locs h_3 hW => ?_)
              have hW : pM G (HWl G ad x ++ T) s _ _ := hW
              rcases h_3 with ⟨rfl, b_105⟩ | ⟨rfl, b_105⟩
              · refine lv_istore_n (lv' := [(2, .int 1), (4, .ref la), (0, .ref (ad 5)), (1, .int (nI k)), (3, .int (nI n))]) hx hb dX3_isLinked_108 rfl hl (by decide) rfl (fun ls hl => ?_)
                refine lv_iinc (v := nI (n + 1)) (lv' := [(3, .int (nI (n + 1))), (2, .int 1), (4, .ref la), (0, .ref (ad 5)), (1, .int (nI k))]) hx hb dX3_isLinked_109 hl (k := 4) rfl (nI_1 _) (by decide) rfl (fun ls hl => ?_)
                refine lv_goto (tgt := 4) hx hb dX3_isLinked_112 (by decide) ?_
                exact W.widen (by omega) (by omega) (ih (n + 1) H locs ls (by omega) (by omega) (fun k9 h9 => if h : k9 = n then h ▸ (by show lkP _ _ _ _ (a.2.2.getD n (0, 0, 0)) = true; rw [hq]; exact lk_y hA1 hA2 b_105) else hg k9 (by omega)) hW (lv_sub hl [3, 4, 1, 0] rfl))
              · refine lv_istore_n (lv' := [(2, .int 0), (4, .ref la), (0, .ref (ad 5)), (1, .int (nI k)), (3, .int (nI n))]) hx hb dX3_isLinked_108 rfl hl (by decide) rfl (fun ls hl => ?_)
                refine lv_iinc (v := nI (n + 1)) (lv' := [(3, .int (nI (n + 1))), (2, .int 0), (4, .ref la), (0, .ref (ad 5)), (1, .int (nI k))]) hx hb dX3_isLinked_109 hl (k := 4) rfl (nI_1 _) (by decide) rfl (fun ls hl => ?_)
                refine lv_goto (tgt := 4) hx hb dX3_isLinked_112 (by decide) ?_
                refine lv_iload_n hx hb dX3_isLinked_4 rfl (lv_at hl 0 rfl) ?_
                refine lv_aload_n hx hb dX3_isLinked_5 rfl (lv_at hl 3 rfl) ?_
                refine gH5_what hF hW q215 (v := some pa) (h1) dX3_isLinked_6 ?_
                refine gt hF hW (ms_r ha1) (ci := 4) rfl in_X10 4 (by decide) q557 rfl (v := .int (nI a.2.2.length)) rfl dX3_isLinked_9 ?_
                refine lv_icmp_ge (tgt := 115) hx hb dX3_isLinked_12 (by decide) (fun c_12 => ?_) (fun c_12 => ?_)
                · refine lv_iload_n hx hb dX3_isLinked_115 rfl (lv_at hl 1 rfl) ?_
                  exact re_z hF hRt hLk hQ (by omega) (by omega) (by decide) dX3_isLinked_116 () (Or.inr ⟨rfl, all_no (d := (0, 0, 0)) hkl (by show lkP _ _ _ _ (a.2.2.getD n (0, 0, 0)) = false; rw [hq]; exact lk_f (Or.inl (eq_eq c_36)) hA1 hA2 b_105)⟩) hW
                · refine lv_iload_n hx hb dX3_isLinked_15 rfl (lv_at hl 1 rfl) ?_
                  refine lv_if_eq (tgt := 115) hx hb dX3_isLinked_16 (by decide) (fun c_16 => ?_) (fun c_16 => absurd c_16 (by decide))
                  refine lv_iload_n hx hb dX3_isLinked_115 rfl (lv_at hl 1 rfl) ?_
                  exact re_z hF hRt hLk hQ (by omega) (by omega) (by decide) dX3_isLinked_116 () (Or.inr ⟨rfl, all_no (d := (0, 0, 0)) hkl (by show lkP _ _ _ _ (a.2.2.getD n (0, 0, 0)) = false; rw [hq]; exact lk_f (Or.inl (eq_eq c_36)) hA1 hA2 b_105)⟩) hW
        · refine lv_aload hx hb dX3_isLinked_39 (lv_at hl 0 rfl) ?_
          refine gt hF hW (ms_r hl2) (ci := 5) rfl in_X11 2 (by decide) q627 rfl (v := .int (nI q.2.2)) rfl dX3_isLinked_41 ?_
          refine lv_iload_n hx hb dX3_isLinked_44 rfl (lv_at hl 2 rfl) ?_
          refine lv_icmp_ne (tgt := 109) hx hb dX3_isLinked_45 (by decide) (fun c_45 => ?_) (fun c_45 => ?_)
          · refine lv_iinc (v := nI (n + 1)) (lv' := [(3, .int (nI (n + 1))), (4, .ref la), (0, .ref (ad 5)), (1, .int (nI k)), (2, .int 1)]) hx hb dX3_isLinked_109 hl (k := 4) rfl (nI_1 _) (by decide) rfl (fun ls hl => ?_)
            refine lv_goto (tgt := 4) hx hb dX3_isLinked_112 (by decide) ?_
            exact ih (n + 1) H locs ls (by omega) (by omega) (fun k9 h9 => if h : k9 = n then h ▸ (by show lkP _ _ _ _ (a.2.2.getD n (0, 0, 0)) = true; rw [hq]; exact lk_n (fun z => c_36 (by rw [z])) (fun z => c_45 (by rw [z]))) else hg k9 (by omega)) hW (lv_sub hl [2, 3, 4, 0] rfl)
          · refine lv_aload_n hx hb dX3_isLinked_48 rfl (lv_at hl 1 rfl) ?_
            refine gH5_to hF hW q218 dX3_isLinked_49 ?_
            refine lv_aload hx hb dX3_isLinked_52 (lv_at hl 0 rfl) ?_
            refine gt hF hW (ms_r hl2) (ci := 5) rfl in_X11 0 (by decide) q621 rfl (v := .int (nI q.1)) rfl dX3_isLinked_54 ?_
            refine lH6 hF hW (j := q.1) (rfl) (by omega) (v := x.2.1 2 q.1) (rfl) dX3_isLinked_57 ?_
            cases hA1 : A.getD q.1 none with
            | none =>
              refine lv_eqi (show x.2.1 2 q.1 = -1 from (hto q.1 (by omega)).trans (by rw [hA1]; rfl)) ?_
              refine lv_iconst (v := (-1)) hx hb dX3_isLinked_58 (by decide) ?_
              refine lv_icmp_eq (tgt := 109) hx hb dX3_isLinked_59 (by decide) (fun c_59 => ?_) (fun c_59 => absurd c_59 (by decide))
              refine lv_iinc (v := nI (n + 1)) (lv' := [(3, .int (nI (n + 1))), (4, .ref la), (0, .ref (ad 5)), (1, .int (nI k)), (2, .int 1)]) hx hb dX3_isLinked_109 hl (k := 4) rfl (nI_1 _) (by decide) rfl (fun ls hl => ?_)
              refine lv_goto (tgt := 4) hx hb dX3_isLinked_112 (by decide) ?_
              exact ih (n + 1) H locs ls (by omega) (by omega) (fun k9 h9 => if h : k9 = n then h ▸ (by show lkP _ _ _ _ (a.2.2.getD n (0, 0, 0)) = true; rw [hq]; exact lk_0 hA1) else hg k9 (by omega)) hW (lv_sub hl [2, 3, 4, 0] rfl)
            | some i0 =>
              refine lv_eqi (show x.2.1 2 q.1 = nI i0 from (hto q.1 (by omega)).trans (by rw [hA1]; rfl)) ?_
              refine lv_iconst (v := (-1)) hx hb dX3_isLinked_58 (by decide) ?_
              refine lv_icmp_eq (tgt := 109) hx hb dX3_isLinked_59 (by decide) (fun c_59 => absurd c_59 (nI_ne_m1 (by have := hA8 _ _ hA1; omega))) (fun c_59 => ?_)
              refine lv_aload_n hx hb dX3_isLinked_62 rfl (lv_at hl 1 rfl) ?_
              refine gH5_to hF hW q218 dX3_isLinked_63 ?_
              refine lv_aload hx hb dX3_isLinked_66 (lv_at hl 0 rfl) ?_
              refine gt hF hW (ms_r hl2) (ci := 5) rfl in_X11 2 (by decide) q627 rfl (v := .int (nI q.2.2)) rfl dX3_isLinked_68 ?_
              refine lH6 hF hW (j := q.2.2) (rfl) (by omega) (v := x.2.1 2 q.2.2) (rfl) dX3_isLinked_71 ?_
              cases hA2 : A.getD q.2.2 none with
              | none =>
                refine lv_eqi (show x.2.1 2 q.2.2 = -1 from (hto q.2.2 (by omega)).trans (by rw [hA2]; rfl)) ?_
                refine lv_iconst (v := (-1)) hx hb dX3_isLinked_72 (by decide) ?_
                refine lv_icmp_ne (tgt := 79) hx hb dX3_isLinked_73 (by decide) (fun c_73 => absurd c_73 (by decide)) (fun c_73 => ?_)
                refine lv_goto (tgt := 109) hx hb dX3_isLinked_76 (by decide) ?_
                refine lv_iinc (v := nI (n + 1)) (lv' := [(3, .int (nI (n + 1))), (4, .ref la), (0, .ref (ad 5)), (1, .int (nI k)), (2, .int 1)]) hx hb dX3_isLinked_109 hl (k := 4) rfl (nI_1 _) (by decide) rfl (fun ls hl => ?_)
                refine lv_goto (tgt := 4) hx hb dX3_isLinked_112 (by decide) ?_
                exact ih (n + 1) H locs ls (by omega) (by omega) (fun k9 h9 => if h : k9 = n then h ▸ (by show lkP _ _ _ _ (a.2.2.getD n (0, 0, 0)) = true; rw [hq]; exact lk_1 hA2) else hg k9 (by omega)) hW (lv_sub hl [2, 3, 4, 0] rfl)
              | some j0 =>
                refine lv_eqi (show x.2.1 2 q.2.2 = nI j0 from (hto q.2.2 (by omega)).trans (by rw [hA2]; rfl)) ?_
                refine lv_iconst (v := (-1)) hx hb dX3_isLinked_72 (by decide) ?_
                refine lv_icmp_ne (tgt := 79) hx hb dX3_isLinked_73 (by decide) (fun c_73 => ?_) (fun c_73 => absurd c_73 (nI_ne_m1 (by have := hA8 _ _ hA2; omega)))
                refine lv_aload_n hx hb dX3_isLinked_79 rfl (lv_at hl 1 rfl) ?_
                refine lv_aload_n hx hb dX3_isLinked_80 rfl (lv_at hl 1 rfl) ?_
                refine gH5_to hF hW q218 dX3_isLinked_81 ?_
                refine lv_aload hx hb dX3_isLinked_84 (lv_at hl 0 rfl) ?_
                refine gt hF hW (ms_r hl2) (ci := 5) rfl in_X11 0 (by decide) q621 rfl (v := .int (nI q.1)) rfl dX3_isLinked_86 ?_
                refine lH6 hF hW (j := q.1) (rfl) (by omega) (v := nI i0) ((hto q.1 (by omega)).trans (by rw [hA1]; rfl)) dX3_isLinked_89 ?_
                refine lv_aload hx hb dX3_isLinked_90 (lv_at hl 0 rfl) ?_
                refine gt hF hW (ms_r hl2) (ci := 5) rfl in_X11 1 (by decide) q624 rfl (v := .int (nI q.2.1)) rfl dX3_isLinked_92 ?_
                refine lv_aload_n hx hb dX3_isLinked_95 rfl (lv_at hl 1 rfl) ?_
                refine gH5_to hF hW q218 dX3_isLinked_96 ?_
                refine lv_aload hx hb dX3_isLinked_99 (lv_at hl 0 rfl) ?_
                refine gt hF hW (ms_r hl2) (ci := 5) rfl in_X11 2 (by decide) q627 rfl (v := .int (nI q.2.2)) rfl dX3_isLinked_101 ?_
                refine lH6 hF hW (j := q.2.2) (rfl) (by omega) (v := nI j0) ((hto q.2.2 (by omega)).trans (by rw [hA2]; rfl)) dX3_isLinked_104 ?_
                refine cl_i (ru_V (As := [.int (nI i0), .int (nI q.2.1), .int (nI j0)]) (rest := []) hF (mX3_hasLink l G ad x T pb b hb9 h2 nW hwd hW60 hokb i0 q.2.1 j0 (hA8 _ _ hA1) hli.2.1 (hA8 _ _ hA2)) (cwV 3 hts (lw_V q764 q766 qs21 q65 q767) rfl rfl rfl (by decide +kernel) ⟨lb hR1 rfl, lb hR4 rfl⟩) hW (List.mem_of_getElem? (i := 5) rfl) (ci := 3) rfl rfl rfl hl.1 rfl (lv_room (Nat.le_of_ble_eq_true rfl)) dX3_isLinked_105 ⟨by omega, by omega⟩) hW (fun r_4 u_5 H locs h_6 hW => ?_)
                have hW : pM G (HWl G ad x ++ T) s _ _ := hW
                rcases h_6 with ⟨rfl, b_105⟩ | ⟨rfl, b_105⟩
                · refine lv_istore_n (lv' := [(2, .int 1), (4, .ref la), (0, .ref (ad 5)), (1, .int (nI k)), (3, .int (nI n))]) hx hb dX3_isLinked_108 rfl hl (by decide) rfl (fun ls hl => ?_)
                  refine lv_iinc (v := nI (n + 1)) (lv' := [(3, .int (nI (n + 1))), (2, .int 1), (4, .ref la), (0, .ref (ad 5)), (1, .int (nI k))]) hx hb dX3_isLinked_109 hl (k := 4) rfl (nI_1 _) (by decide) rfl (fun ls hl => ?_)
                  refine lv_goto (tgt := 4) hx hb dX3_isLinked_112 (by decide) ?_
                  exact W.widen (by omega) (by omega) (ih (n + 1) H locs ls (by omega) (by omega) (fun k9 h9 => if h : k9 = n then h ▸ (by show lkP _ _ _ _ (a.2.2.getD n (0, 0, 0)) = true; rw [hq]; exact lk_y hA1 hA2 b_105) else hg k9 (by omega)) hW (lv_sub hl [3, 4, 1, 0] rfl))
                · refine lv_istore_n (lv' := [(2, .int 0), (4, .ref la), (0, .ref (ad 5)), (1, .int (nI k)), (3, .int (nI n))]) hx hb dX3_isLinked_108 rfl hl (by decide) rfl (fun ls hl => ?_)
                  refine lv_iinc (v := nI (n + 1)) (lv' := [(3, .int (nI (n + 1))), (2, .int 0), (4, .ref la), (0, .ref (ad 5)), (1, .int (nI k))]) hx hb dX3_isLinked_109 hl (k := 4) rfl (nI_1 _) (by decide) rfl (fun ls hl => ?_)
                  refine lv_goto (tgt := 4) hx hb dX3_isLinked_112 (by decide) ?_
                  refine lv_iload_n hx hb dX3_isLinked_4 rfl (lv_at hl 0 rfl) ?_
                  refine lv_aload_n hx hb dX3_isLinked_5 rfl (lv_at hl 3 rfl) ?_
                  refine gH5_what hF hW q215 (v := some pa) (h1) dX3_isLinked_6 ?_
                  refine gt hF hW (ms_r ha1) (ci := 4) rfl in_X10 4 (by decide) q557 rfl (v := .int (nI a.2.2.length)) rfl dX3_isLinked_9 ?_
                  refine lv_icmp_ge (tgt := 115) hx hb dX3_isLinked_12 (by decide) (fun c_12 => ?_) (fun c_12 => ?_)
                  · refine lv_iload_n hx hb dX3_isLinked_115 rfl (lv_at hl 1 rfl) ?_
                    exact re_z hF hRt hLk hQ (by omega) (by omega) (by decide) dX3_isLinked_116 () (Or.inr ⟨rfl, all_no (d := (0, 0, 0)) hkl (by show lkP _ _ _ _ (a.2.2.getD n (0, 0, 0)) = false; rw [hq]; exact lk_f (Or.inr (eq_eq c_45)) hA1 hA2 b_105)⟩) hW
                  · refine lv_iload_n hx hb dX3_isLinked_15 rfl (lv_at hl 1 rfl) ?_
                    refine lv_if_eq (tgt := 115) hx hb dX3_isLinked_16 (by decide) (fun c_16 => ?_) (fun c_16 => absurd c_16 (by decide))
                    refine lv_iload_n hx hb dX3_isLinked_115 rfl (lv_at hl 1 rfl) ?_
                    exact re_z hF hRt hLk hQ (by omega) (by omega) (by decide) dX3_isLinked_116 () (Or.inr ⟨rfl, all_no (d := (0, 0, 0)) hkl (by show lkP _ _ _ _ (a.2.2.getD n (0, 0, 0)) = false; rw [hq]; exact lk_f (Or.inr (eq_eq c_45)) hA1 hA2 b_105)⟩) hW
  exact loop_4 _ 0 _ _ _ (Nat.lt_succ_self _) (Nat.zero_le _) (fun k9 h9 => absurd h9 (Nat.not_lt_zero _)) hW (lv_sub hl [2, 3, 1, 0] rfl)
