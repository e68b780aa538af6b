/-! find, all, discloses -/
theorem fm_len {α β : Type} (f : α → List β) (K : Nat) : ∀ l : List α, (∀ x, (f x).length ≤ K) → (l.flatMap f).length ≤ l.length * K
  | [], _ => by simp
  | a :: l, h => by
    rw [List.flatMap_cons, List.length_append, List.length_cons, Nat.add_mul, Nat.one_mul]
    have := fm_len f K l h
    have := h a
    omega
theorem sols_len (wd : Nat → Int32) (a b : Tx) (wn : Nat) (hb : b.1.length ≤ 8) : ∀ m A, (solsF wd a b wn m A).length ≤ 8 ^ m
  | 0, A => by simp [solsF]
  | m + 1, A => by
    unfold solsF
    have hp : 8 ^ m ≤ 8 ^ (m + 1) := Nat.pow_le_pow_right (by omega) (by omega)
    split
    · have h1 : ((List.range b.1.length).flatMap (solB wd a b A (solsF wd a b wn m))).length ≤ (List.range b.1.length).length * 8 ^ m := fm_len _ _ _ (fun p => by
        unfold solB
        split
        · simp
        · exact sols_len wd a b wn hb m _)
      rw [List.length_range] at h1
      have h2 : b.1.length * 8 ^ m ≤ 8 * 8 ^ m := Nat.mul_le_mul_right _ hb
      rw [Nat.pow_succ]
      omega
    · exact Nat.le_trans (sols_len wd a b wn hb m _) hp
theorem sols_lt {wd : Nat → Int32} {a b : Tx} {wn m : Nat} {A : List (Option Nat)} (hb : b.1.length ≤ 8) (hm : m ≤ 8) : (solsF wd a b wn m A).length ≤ 16777216 := by
  have h1 := sols_len wd a b wn hb m A
  have h2 : 8 ^ m ≤ 8 ^ 8 := Nat.pow_le_pow_right (by omega) hm
  have h3 : (8 : Nat) ^ 8 = 16777216 := by decide
  omega
/-- the finder's own changed -/
def scx (x : XV) (v to fi : Nat → Int32) (f1 f2 : Option Nat) : XV := xa (xa (xf (xf (xi (xi (xi (xi x 21 (v 21)) 22 (v 22)) 23 (v 23)) 24 (v 24)) 1 f1) 2 f2) 2 to) 3 fi
abbrev SC : Type := (Nat → Int32) × (Nat → Int32) × (Nat → Int32) × Option Nat × Option Nat

theorem mX3_goes_true (l : Launch) (G : pG) (ad : Nat → Nat) (x : XV) (T : va_W) (pa pb : Nat) (a b : Tx) (ha9 : HT G T pa a) (hb9 : HT G T pb b) (h1 : x.2.2.2.1 1 = some pa) (h2 : x.2.2.2.1 2 = some pb) (nW : Nat) (hwd : WdOk (x.2.1 4) nW) (hW60 : nW ≤ 60) (hoka : TxOk nW 8 10 a) (hokb : TxOk nW 8 10 b) (wn : Nat) (hwn : wn < 256) (hwn2 : x.1 21 = nI wn) (ho : x.1 24 = 1) : ∀ (mm : Nat) (A : List (Option Nat)) (w : Nat) (fp : Int32) (to fi : Nat → Int32), (A.length + mm = a.1.length) → (∀ i, i < 8 → to i = enc (A.getD i none)) → (∀ i p, A.getD i none = some p → p < 8) → (true = true → w = 0) → (w + (solsF (x.2.1 4) a b wn mm A).length < 2147483648) → Met l yX3_goes (ws_ yX3_goes cX3_goes 4 none) (rmG mm) (va_Pc [.ref (ad 5), .int (nI A.length), .int (nI (mskA A))] (fun U => pW G (HWl G ad (fdx x (nI w) fp to fi) ++ T) U)) (va_Qv (fun (u : FS) => u.1 = nI (wC true w (solsF (x.2.1 4) a b wn mm A).length) ∧ (∀ j, j < 8 → u.2.2.1 j = enc (A.getD j none)) ∧ (∀ j, j < 8 → u.2.2.2 j = fiF w fi (solsF (x.2.1 4) a b wn mm A) j)) (fun (u : FS) t9 => pW G (HWl G ad (fdx x u.1 u.2.1 u.2.2.1 u.2.2.2) ++ T) t9) (pA G)) 0 0 (pA G) := by
  intro mm
  induction mm with
  | zero => intro A w fp to fi g0 g1 g2 g3 g4; exact mX3_goes0_true l G ad x T pa pb a b ha9 hb9 h1 h2 nW hwd hW60 hoka hokb wn hwn hwn2 ho A w fp to fi g0 g1 g2 g3 g4
  | succ mm ih => intro A w fp to fi g0 g1 g2 g3 g4; exact mX3_goesS_true l G ad x T pa pb a b ha9 hb9 h1 h2 nW hwd hW60 hoka hokb wn hwn hwn2 ho mm ih A w fp to fi g0 g1 g2 g3 g4
set_option maxRecDepth 100000 in
set_option maxHeartbeats 16000000 in
theorem mX3_find_true (l : Launch) (G : pG) (ad : Nat → Nat) (x : XV) (T : va_W) (v0 to0 fi0 : Nat → Int32) (f1 f2 : Option Nat) (pa pb : Nat) (a b : Tx) (ha9 : HT G T pa a) (hb9 : HT G T pb b) (nW : Nat) (hwd : WdOk (x.2.1 4) nW) (hW60 : nW ≤ 60) (hoka : TxOk nW 8 10 a) (hokb : TxOk nW 8 10 b) (wn : Nat) (hwn : wn < 256) : Met l yX3_find (ws_ yX3_find cX3_find 6 (some .int)) ({ frames := 20, cells := 0, slots := 0, locals := 1000 } : Room) (va_Pc [.ref (ad 5), .ref pa, .int (nI wn), .ref pb, .int 1] (fun U => pW G (HWl G ad (scx x v0 to0 fi0 f1 f2) ++ T) U)) (va_Qi (fun r (u : SC) => r = nI (wC true 0 (solsF (x.2.1 4) a b wn a.1.length []).length) ∧ (∀ j, j < 8 → u.2.2.1 j = fiF 0 fi0 (solsF (x.2.1 4) a b wn a.1.length []) j)) (fun (u : SC) t9 => pW G (HWl G ad (scx x u.1 u.2.1 u.2.2.1 u.2.2.2.1 u.2.2.2.2) ++ T) t9) (pA G)) 0 0 (pA G) := by
  refine mw (by decide) (Nat.le_of_ble_eq_true rfl) ?_
  intro pp ee R s m below meth c ls Q hF hRt hLk hnm hR hQ hW hl
  have hx := hF.1
  have hb := hF.2.1
  have hts := hF.2.2.2.2
  have hR1 : R.frames = 20 := by subst hR; rfl
  have hR2 : R.cells = 0 := by subst hR; rfl
  have hR3 : R.slots = 0 := by subst hR; rfl
  have hR4 : R.locals = 1000 := by subst hR; rfl
  have hl : lv_has ls 6 [(0, .ref (ad 5)), (1, .ref pa), (2, .int (nI wn)), (3, .ref pb), (4, .int 1)] := hl
  have hW : pM G (HWl G ad (scx x v0 to0 fi0 f1 f2) ++ T) s s.heap [] := hW
  refine lv_aload_n hx hb dX3_find_0 rfl (lv_at hl 0 rfl) ?_
  refine lv_aload_n hx hb dX3_find_1 rfl (lv_at hl 1 rfl) ?_
  refine pH5_what hF hW q215 dX3_find_2 (fun H locs hW => ?_)
  have hW : pM G (HWl G ad (xf (scx x v0 to0 fi0 f1 f2) 1 (some pa)) ++ T) s _ _ := hW
  refine lv_aload_n hx hb dX3_find_5 rfl (lv_at hl 0 rfl) ?_
  refine lv_aload_n hx hb dX3_find_6 rfl (lv_at hl 3 rfl) ?_
  refine pH5_in hF hW q216 dX3_find_7 (fun H locs hW => ?_)
  have hW : pM G (HWl G ad (xf (xf (scx x v0 to0 fi0 f1 f2) 1 (some pa)) 2 (some pb)) ++ T) s _ _ := hW
  refine lv_aload_n hx hb dX3_find_10 rfl (lv_at hl 0 rfl) ?_
  refine lv_iload_n hx hb dX3_find_11 rfl (lv_at hl 2 rfl) ?_
  refine pH5_wanted hF hW q217 dX3_find_12 (fun H locs hW => ?_)
  have hW : pM G (HWl G ad (xf (xf (xi (scx x v0 to0 fi0 f1 f2) 21 (nI wn)) 1 (some pa)) 2 (some pb)) ++ T) s _ _ := hW
  refine lv_aload_n hx hb dX3_find_15 rfl (lv_at hl 0 rfl) ?_
  refine lv_iload hx hb dX3_find_16 (lv_at hl 4 rfl) ?_
  refine pH5_onlyOne hF hW q223 (by decide) (by decide) dX3_find_18 (fun H locs hW => ?_)
  have hW : pM G (HWl G ad (xf (xf (xi (xi (scx x v0 to0 fi0 f1 f2) 21 (nI wn)) 24 1) 1 (some pa)) 2 (some pb)) ++ T) s _ _ := hW
  refine lv_aload_n hx hb dX3_find_21 rfl (lv_at hl 0 rfl) ?_
  refine lv_iconst (v := 0) hx hb dX3_find_22 (by decide) ?_
  refine pH5_ways hF hW q221 dX3_find_23 (fun H locs hW => ?_)
  have hW : pM G (HWl G ad (xf (xf (xi (xi (xi (scx x v0 to0 fi0 f1 f2) 21 (nI wn)) 22 0) 24 1) 1 (some pa)) 2 (some pb)) ++ T) s _ _ := hW
  refine lv_iconst (v := 0) hx hb dX3_find_26 (by decide) ?_
  refine lv_istore (lv' := [(5, .int 0), (0, .ref (ad 5)), (1, .ref pa), (2, .int (nI wn)), (3, .ref pb), (4, .int 1)]) hx hb dX3_find_27 hl (by decide) rfl (fun ls hl => ?_)
  refine lv_iload hx hb dX3_find_29 (lv_at hl 0 rfl) ?_
  refine lv_bipush (v := 8) hx hb dX3_find_31 (by decide) ?_
  refine lv_icmp_ge (tgt := 50) hx hb dX3_find_33 (by decide) (fun c_33 => absurd c_33 (by decide)) (fun c_33 => ?_)
  refine lv_aload_n hx hb dX3_find_36 rfl (lv_at hl 1 rfl) ?_
  refine gH5_to hF hW q218 dX3_find_37 ?_
  refine lv_iload hx hb dX3_find_40 (lv_at hl 0 rfl) ?_
  refine lv_iconst (v := (-1)) hx hb dX3_find_42 (by decide) ?_
  refine sH6 hF hW (j := 0) (rfl) (by decide) dX3_find_43 (fun H locs hW => ?_)
  have hW : pM G (HWl G ad (xf (xf (xa (xi (xi (xi (scx x v0 to0 fi0 f1 f2) 21 (nI wn)) 22 0) 24 1) 2 (va_up ((scx x v0 to0 fi0 f1 f2).2.1 2) 0 (-1))) 1 (some pa)) 2 (some pb)) ++ T) s _ _ := hW
  refine lv_iinc (v := 1) (lv' := [(5, .int 1), (0, .ref (ad 5)), (1, .ref pa), (2, .int (nI wn)), (3, .ref pb), (4, .int 1)]) hx hb dX3_find_44 hl (k := 0) rfl (by decide) (by decide) rfl (fun ls hl => ?_)
  refine lv_goto (tgt := 29) hx hb dX3_find_47 (by decide) ?_
  refine lv_iload hx hb dX3_find_29 (lv_at hl 0 rfl) ?_
  refine lv_bipush (v := 8) hx hb dX3_find_31 (by decide) ?_
  refine lv_icmp_ge (tgt := 50) hx hb dX3_find_33 (by decide) (fun c_33 => absurd c_33 (by decide)) (fun c_33 => ?_)
  refine lv_aload_n hx hb dX3_find_36 rfl (lv_at hl 1 rfl) ?_
  refine gH5_to hF hW q218 dX3_find_37 ?_
  refine lv_iload hx hb dX3_find_40 (lv_at hl 0 rfl) ?_
  refine lv_iconst (v := (-1)) hx hb dX3_find_42 (by decide) ?_
  refine sH6 hF hW (j := 1) (rfl) (by decide) dX3_find_43 (fun H locs hW => ?_)
  have hW : pM G (HWl G ad (xf (xf (xa (xi (xi (xi (scx x v0 to0 fi0 f1 f2) 21 (nI wn)) 22 0) 24 1) 2 (va_up (va_up ((scx x v0 to0 fi0 f1 f2).2.1 2) 0 (-1)) 1 (-1))) 1 (some pa)) 2 (some pb)) ++ T) s _ _ := hW
  refine lv_iinc (v := 2) (lv' := [(5, .int 2), (0, .ref (ad 5)), (1, .ref pa), (2, .int (nI wn)), (3, .ref pb), (4, .int 1)]) hx hb dX3_find_44 hl (k := 0) rfl (by decide) (by decide) rfl (fun ls hl => ?_)
  refine lv_goto (tgt := 29) hx hb dX3_find_47 (by decide) ?_
  refine lv_iload hx hb dX3_find_29 (lv_at hl 0 rfl) ?_
  refine lv_bipush (v := 8) hx hb dX3_find_31 (by decide) ?_
  refine lv_icmp_ge (tgt := 50) hx hb dX3_find_33 (by decide) (fun c_33 => absurd c_33 (by decide)) (fun c_33 => ?_)
  refine lv_aload_n hx hb dX3_find_36 rfl (lv_at hl 1 rfl) ?_
  refine gH5_to hF hW q218 dX3_find_37 ?_
  refine lv_iload hx hb dX3_find_40 (lv_at hl 0 rfl) ?_
  refine lv_iconst (v := (-1)) hx hb dX3_find_42 (by decide) ?_
  refine sH6 hF hW (j := 2) (rfl) (by decide) dX3_find_43 (fun H locs hW => ?_)
  have hW : pM G (HWl G ad (xf (xf (xa (xi (xi (xi (scx x v0 to0 fi0 f1 f2) 21 (nI wn)) 22 0) 24 1) 2 (va_up (va_up (va_up ((scx x v0 to0 fi0 f1 f2).2.1 2) 0 (-1)) 1 (-1)) 2 (-1))) 1 (some pa)) 2 (some pb)) ++ T) s _ _ := hW
  refine lv_iinc (v := 3) (lv' := [(5, .int 3), (0, .ref (ad 5)), (1, .ref pa), (2, .int (nI wn)), (3, .ref pb), (4, .int 1)]) hx hb dX3_find_44 hl (k := 0) rfl (by decide) (by decide) rfl (fun ls hl => ?_)
  refine lv_goto (tgt := 29) hx hb dX3_find_47 (by decide) ?_
  refine lv_iload hx hb dX3_find_29 (lv_at hl 0 rfl) ?_
  refine lv_bipush (v := 8) hx hb dX3_find_31 (by decide) ?_
  refine lv_icmp_ge (tgt := 50) hx hb dX3_find_33 (by decide) (fun c_33 => absurd c_33 (by decide)) (fun c_33 => ?_)
  refine lv_aload_n hx hb dX3_find_36 rfl (lv_at hl 1 rfl) ?_
  refine gH5_to hF hW q218 dX3_find_37 ?_
  refine lv_iload hx hb dX3_find_40 (lv_at hl 0 rfl) ?_
  refine lv_iconst (v := (-1)) hx hb dX3_find_42 (by decide) ?_
  refine sH6 hF hW (j := 3) (rfl) (by decide) dX3_find_43 (fun H locs hW => ?_)
  have hW : pM G (HWl G ad (xf (xf (xa (xi (xi (xi (scx x v0 to0 fi0 f1 f2) 21 (nI wn)) 22 0) 24 1) 2 (va_up (va_up (va_up (va_up ((scx x v0 to0 fi0 f1 f2).2.1 2) 0 (-1)) 1 (-1)) 2 (-1)) 3 (-1))) 1 (some pa)) 2 (some pb)) ++ T) s _ _ := hW
  refine lv_iinc (v := 4) (lv' := [(5, .int 4), (0, .ref (ad 5)), (1, .ref pa), (2, .int (nI wn)), (3, .ref pb), (4, .int 1)]) hx hb dX3_find_44 hl (k := 0) rfl (by decide) (by decide) rfl (fun ls hl => ?_)
  refine lv_goto (tgt := 29) hx hb dX3_find_47 (by decide) ?_
  refine lv_iload hx hb dX3_find_29 (lv_at hl 0 rfl) ?_
  refine lv_bipush (v := 8) hx hb dX3_find_31 (by decide) ?_
  refine lv_icmp_ge (tgt := 50) hx hb dX3_find_33 (by decide) (fun c_33 => absurd c_33 (by decide)) (fun c_33 => ?_)
  refine lv_aload_n hx hb dX3_find_36 rfl (lv_at hl 1 rfl) ?_
  refine gH5_to hF hW q218 dX3_find_37 ?_
  refine lv_iload hx hb dX3_find_40 (lv_at hl 0 rfl) ?_
  refine lv_iconst (v := (-1)) hx hb dX3_find_42 (by decide) ?_
  refine sH6 hF hW (j := 4) (rfl) (by decide) dX3_find_43 (fun H locs hW => ?_)
  have hW : pM G (HWl G ad (xf (xf (xa (xi (xi (xi (scx x v0 to0 fi0 f1 f2) 21 (nI wn)) 22 0) 24 1) 2 (va_up (va_up (va_up (va_up (va_up ((scx x v0 to0 fi0 f1 f2).2.1 2) 0 (-1)) 1 (-1)) 2 (-1)) 3 (-1)) 4 (-1))) 1 (some pa)) 2 (some pb)) ++ T) s _ _ := hW
  refine lv_iinc (v := 5) (lv' := [(5, .int 5), (0, .ref (ad 5)), (1, .ref pa), (2, .int (nI wn)), (3, .ref pb), (4, .int 1)]) hx hb dX3_find_44 hl (k := 0) rfl (by decide) (by decide) rfl (fun ls hl => ?_)
  refine lv_goto (tgt := 29) hx hb dX3_find_47 (by decide) ?_
  refine lv_iload hx hb dX3_find_29 (lv_at hl 0 rfl) ?_
  refine lv_bipush (v := 8) hx hb dX3_find_31 (by decide) ?_
  refine lv_icmp_ge (tgt := 50) hx hb dX3_find_33 (by decide) (fun c_33 => absurd c_33 (by decide)) (fun c_33 => ?_)
  refine lv_aload_n hx hb dX3_find_36 rfl (lv_at hl 1 rfl) ?_
  refine gH5_to hF hW q218 dX3_find_37 ?_
  refine lv_iload hx hb dX3_find_40 (lv_at hl 0 rfl) ?_
  refine lv_iconst (v := (-1)) hx hb dX3_find_42 (by decide) ?_
  refine sH6 hF hW (j := 5) (rfl) (by decide) dX3_find_43 (fun H locs hW => ?_)
  have hW : pM G (HWl G ad (xf (xf (xa (xi (xi (xi (scx x v0 to0 fi0 f1 f2) 21 (nI wn)) 22 0) 24 1) 2 (va_up (va_up (va_up (va_up (va_up (va_up ((scx x v0 to0 fi0 f1 f2).2.1 2) 0 (-1)) 1 (-1)) 2 (-1)) 3 (-1)) 4 (-1)) 5 (-1))) 1 (some pa)) 2 (some pb)) ++ T) s _ _ := hW
  refine lv_iinc (v := 6) (lv' := [(5, .int 6), (0, .ref (ad 5)), (1, .ref pa), (2, .int (nI wn)), (3, .ref pb), (4, .int 1)]) hx hb dX3_find_44 hl (k := 0) rfl (by decide) (by decide) rfl (fun ls hl => ?_)
  refine lv_goto (tgt := 29) hx hb dX3_find_47 (by decide) ?_
  refine lv_iload hx hb dX3_find_29 (lv_at hl 0 rfl) ?_
  refine lv_bipush (v := 8) hx hb dX3_find_31 (by decide) ?_
  refine lv_icmp_ge (tgt := 50) hx hb dX3_find_33 (by decide) (fun c_33 => absurd c_33 (by decide)) (fun c_33 => ?_)
  refine lv_aload_n hx hb dX3_find_36 rfl (lv_at hl 1 rfl) ?_
  refine gH5_to hF hW q218 dX3_find_37 ?_
  refine lv_iload hx hb dX3_find_40 (lv_at hl 0 rfl) ?_
  refine lv_iconst (v := (-1)) hx hb dX3_find_42 (by decide) ?_
  refine sH6 hF hW (j := 6) (rfl) (by decide) dX3_find_43 (fun H locs hW => ?_)
  have hW : pM G (HWl G ad (xf (xf (xa (xi (xi (xi (scx x v0 to0 fi0 f1 f2) 21 (nI wn)) 22 0) 24 1) 2 (va_up (va_up (va_up (va_up (va_up (va_up (va_up ((scx x v0 to0 fi0 f1 f2).2.1 2) 0 (-1)) 1 (-1)) 2 (-1)) 3 (-1)) 4 (-1)) 5 (-1)) 6 (-1))) 1 (some pa)) 2 (some pb)) ++ T) s _ _ := hW
  refine lv_iinc (v := 7) (lv' := [(5, .int 7), (0, .ref (ad 5)), (1, .ref pa), (2, .int (nI wn)), (3, .ref pb), (4, .int 1)]) hx hb dX3_find_44 hl (k := 0) rfl (by decide) (by decide) rfl (fun ls hl => ?_)
  refine lv_goto (tgt := 29) hx hb dX3_find_47 (by decide) ?_
  refine lv_iload hx hb dX3_find_29 (lv_at hl 0 rfl) ?_
  refine lv_bipush (v := 8) hx hb dX3_find_31 (by decide) ?_
  refine lv_icmp_ge (tgt := 50) hx hb dX3_find_33 (by decide) (fun c_33 => absurd c_33 (by decide)) (fun c_33 => ?_)
  refine lv_aload_n hx hb dX3_find_36 rfl (lv_at hl 1 rfl) ?_
  refine gH5_to hF hW q218 dX3_find_37 ?_
  refine lv_iload hx hb dX3_find_40 (lv_at hl 0 rfl) ?_
  refine lv_iconst (v := (-1)) hx hb dX3_find_42 (by decide) ?_
  refine sH6 hF hW (j := 7) (rfl) (by decide) dX3_find_43 (fun H locs hW => ?_)
  have hW : pM G (HWl G ad (xf (xf (xa (xi (xi (xi (scx x v0 to0 fi0 f1 f2) 21 (nI wn)) 22 0) 24 1) 2 (va_up (va_up (va_up (va_up (va_up (va_up (va_up (va_up ((scx x v0 to0 fi0 f1 f2).2.1 2) 0 (-1)) 1 (-1)) 2 (-1)) 3 (-1)) 4 (-1)) 5 (-1)) 6 (-1)) 7 (-1))) 1 (some pa)) 2 (some pb)) ++ T) s _ _ := hW
  refine lv_iinc (v := 8) (lv' := [(5, .int 8), (0, .ref (ad 5)), (1, .ref pa), (2, .int (nI wn)), (3, .ref pb), (4, .int 1)]) hx hb dX3_find_44 hl (k := 0) rfl (by decide) (by decide) rfl (fun ls hl => ?_)
  refine lv_goto (tgt := 29) hx hb dX3_find_47 (by decide) ?_
  refine lv_iload hx hb dX3_find_29 (lv_at hl 0 rfl) ?_
  refine lv_bipush (v := 8) hx hb dX3_find_31 (by decide) ?_
  refine lv_icmp_ge (tgt := 50) hx hb dX3_find_33 (by decide) (fun c_33 => ?_) (fun c_33 => absurd c_33 (by decide))
  refine lv_aload_n hx hb dX3_find_50 rfl (lv_at hl 1 rfl) ?_
  refine lv_iconst (v := 0) hx hb dX3_find_51 (by decide) ?_
  refine lv_iconst (v := 0) hx hb dX3_find_52 (by decide) ?_
  have hla := hoka.2.2.1
  have hlb := hokb.2.2.1
  have hsl : (solsF (x.2.1 4) a b wn a.1.length []).length ≤ 16777216 := sols_lt hlb (by omega)
  have hto9 : ∀ i, i < 8 → (va_up (va_up (va_up (va_up (va_up (va_up (va_up (va_up ((scx x v0 to0 fi0 f1 f2).2.1 2) 0 (-1)) 1 (-1)) 2 (-1)) 3 (-1)) 4 (-1)) 5 (-1)) 6 (-1)) 7 (-1)) i = enc (([] : List (Option Nat)).getD i none) := fun i hi => by match i, hi with | 0, _ => rfl | 1, _ => rfl | 2, _ => rfl | 3, _ => rfl | 4, _ => rfl | 5, _ => rfl | 6, _ => rfl | 7, _ => rfl
  have hW : pM G (HWl G ad (fdx (xf (xf (xi (xi (scx x v0 to0 fi0 f1 f2) 21 (nI wn)) 24 1) 1 (some pa)) 2 (some pb)) (nI 0) (v0 23) (va_up (va_up (va_up (va_up (va_up (va_up (va_up (va_up ((scx x v0 to0 fi0 f1 f2).2.1 2) 0 (-1)) 1 (-1)) 2 (-1)) 3 (-1)) 4 (-1)) 5 (-1)) 6 (-1)) 7 (-1)) fi0) ++ T) s _ _ := hW
  refine cl_v (ru_V (mc := 0) (ms := 0) (As := [.int 0, .int 0]) (rest := []) hF (mX3_goes_true l G ad (xf (xf (xi (xi (scx x v0 to0 fi0 f1 f2) 21 (nI wn)) 24 1) 1 (some pa)) 2 (some pb)) T pa pb a b ha9 hb9 rfl rfl nW hwd hW60 hoka hokb wn hwn rfl rfl a.1.length [] 0 (v0 23) (va_up (va_up (va_up (va_up (va_up (va_up (va_up (va_up ((scx x v0 to0 fi0 f1 f2).2.1 2) 0 (-1)) 1 (-1)) 2 (-1)) 3 (-1)) 4 (-1)) 5 (-1)) 6 (-1)) 7 (-1)) fi0 (Nat.zero_add _) hto9 (fun i p h => by cases i <;> cases h) (fun _ => rfl) (by have := hsl; show 0 + (solsF (x.2.1 4) a b wn a.1.length []).length < 2147483648; omega)) (cwV 2 hts (lw_V q754 q756 qs19 q65 q757) rfl rfl rfl (by decide +kernel) ⟨by rw [hR1]; dsimp only [rmG]; omega, by rw [hR4]; dsimp only [rmG]; omega⟩) hW (List.mem_of_getElem? (i := 5) rfl) (ci := 3) rfl rfl rfl hl.1 rfl (lv_room (Nat.le_of_ble_eq_true rfl)) dX3_find_53 ⟨by omega, by omega⟩) hW (fun u_ H locs h_ hW => ?_)
  obtain ⟨w2, fp2, to2, fi2⟩ := u_
  obtain ⟨r1, r2, r3⟩ := h_
  have r1 : w2 = nI (wC true 0 (solsF (x.2.1 4) a b wn a.1.length []).length) := r1
  have hW : pM G (HWl G ad (fdx (xf (xf (xi (xi (scx x v0 to0 fi0 f1 f2) 21 (nI wn)) 24 1) 1 (some pa)) 2 (some pb)) w2 fp2 to2 fi2) ++ T) s _ _ := hW
  refine lv_aload_n hx hb dX3_find_56 rfl (lv_at hl 1 rfl) ?_
  refine gH5_ways hF hW q221 (v := w2) (rfl) dX3_find_57 ?_
  exact re_i hF hRt hLk hQ (by omega) (by omega) dX3_find_60 (va_up (va_up (va_up (va_up v0 21 (nI wn)) 24 1) 22 w2) 23 fp2, to2, fi2, some pa, some pb) (⟨r1, r3⟩) hW

theorem mX3_goes_false (l : Launch) (G : pG) (ad : Nat → Nat) (x : XV) (T : va_W) (pa pb : Nat) (a b : Tx) (ha9 : HT G T pa a) (hb9 : HT G T pb b) (h1 : x.2.2.2.1 1 = some pa) (h2 : x.2.2.2.1 2 = some pb) (nW : Nat) (hwd : WdOk (x.2.1 4) nW) (hW60 : nW ≤ 60) (hoka : TxOk nW 8 10 a) (hokb : TxOk nW 8 10 b) (wn : Nat) (hwn : wn < 256) (hwn2 : x.1 21 = nI wn) (ho : x.1 24 = 0) : ∀ (mm : Nat) (A : List (Option Nat)) (w : Nat) (fp : Int32) (to fi : Nat → Int32), (A.length + mm = a.1.length) → (∀ i, i < 8 → to i = enc (A.getD i none)) → (∀ i p, A.getD i none = some p → p < 8) → (false = true → w = 0) → (w + (solsF (x.2.1 4) a b wn mm A).length < 2147483648) → Met l yX3_goes (ws_ yX3_goes cX3_goes 4 none) (rmG mm) (va_Pc [.ref (ad 5), .int (nI A.length), .int (nI (mskA A))] (fun U => pW G (HWl G ad (fdx x (nI w) fp to fi) ++ T) U)) (va_Qv (fun (u : FS) => u.1 = nI (wC false w (solsF (x.2.1 4) a b wn mm A).length) ∧ (∀ j, j < 8 → u.2.2.1 j = enc (A.getD j none)) ∧ (∀ j, j < 8 → u.2.2.2 j = fiF w fi (solsF (x.2.1 4) a b wn mm A) j)) (fun (u : FS) t9 => pW G (HWl G ad (fdx x u.1 u.2.1 u.2.2.1 u.2.2.2) ++ T) t9) (pA G)) 0 0 (pA G) := by
  intro mm
  induction mm with
  | zero => intro A w fp to fi g0 g1 g2 g3 g4; exact mX3_goes0_false l G ad x T pa pb a b ha9 hb9 h1 h2 nW hwd hW60 hoka hokb wn hwn hwn2 ho A w fp to fi g0 g1 g2 g3 g4
  | succ mm ih => intro A w fp to fi g0 g1 g2 g3 g4; exact mX3_goesS_false l G ad x T pa pb a b ha9 hb9 h1 h2 nW hwd hW60 hoka hokb wn hwn hwn2 ho mm ih A w fp to fi g0 g1 g2 g3 g4
set_option maxRecDepth 100000 in
set_option maxHeartbeats 16000000 in
theorem mX3_find_false (l : Launch) (G : pG) (ad : Nat → Nat) (x : XV) (T : va_W) (v0 to0 fi0 : Nat → Int32) (f1 f2 : Option Nat) (pa pb : Nat) (a b : Tx) (ha9 : HT G T pa a) (hb9 : HT G T pb b) (nW : Nat) (hwd : WdOk (x.2.1 4) nW) (hW60 : nW ≤ 60) (hoka : TxOk nW 8 10 a) (hokb : TxOk nW 8 10 b) (wn : Nat) (hwn : wn < 256) : Met l yX3_find (ws_ yX3_find cX3_find 6 (some .int)) ({ frames := 20, cells := 0, slots := 0, locals := 1000 } : Room) (va_Pc [.ref (ad 5), .ref pa, .int (nI wn), .ref pb, .int 0] (fun U => pW G (HWl G ad (scx x v0 to0 fi0 f1 f2) ++ T) U)) (va_Qi (fun r (u : SC) => r = nI (wC false 0 (solsF (x.2.1 4) a b wn a.1.length []).length) ∧ (∀ j, j < 8 → u.2.2.1 j = fiF 0 fi0 (solsF (x.2.1 4) a b wn a.1.length []) j)) (fun (u : SC) t9 => pW G (HWl G ad (scx x u.1 u.2.1 u.2.2.1 u.2.2.2.1 u.2.2.2.2) ++ T) t9) (pA G)) 0 0 (pA G) := by
  refine mw (by decide) (Nat.le_of_ble_eq_true rfl) ?_
  intro pp ee R s m below meth c ls Q hF hRt hLk hnm hR hQ hW hl
  have hx := hF.1
  have hb := hF.2.1
  have hts := hF.2.2.2.2
  have hR1 : R.frames = 20 := by subst hR; rfl
  have hR2 : R.cells = 0 := by subst hR; rfl
  have hR3 : R.slots = 0 := by subst hR; rfl
  have hR4 : R.locals = 1000 := by subst hR; rfl
  have hl : lv_has ls 6 [(0, .ref (ad 5)), (1, .ref pa), (2, .int (nI wn)), (3, .ref pb), (4, .int 0)] := hl
  have hW : pM G (HWl G ad (scx x v0 to0 fi0 f1 f2) ++ T) s s.heap [] := hW
  refine lv_aload_n hx hb dX3_find_0 rfl (lv_at hl 0 rfl) ?_
  refine lv_aload_n hx hb dX3_find_1 rfl (lv_at hl 1 rfl) ?_
  refine pH5_what hF hW q215 dX3_find_2 (fun H locs hW => ?_)
  have hW : pM G (HWl G ad (xf (scx x v0 to0 fi0 f1 f2) 1 (some pa)) ++ T) s _ _ := hW
  refine lv_aload_n hx hb dX3_find_5 rfl (lv_at hl 0 rfl) ?_
  refine lv_aload_n hx hb dX3_find_6 rfl (lv_at hl 3 rfl) ?_
  refine pH5_in hF hW q216 dX3_find_7 (fun H locs hW => ?_)
  have hW : pM G (HWl G ad (xf (xf (scx x v0 to0 fi0 f1 f2) 1 (some pa)) 2 (some pb)) ++ T) s _ _ := hW
  refine lv_aload_n hx hb dX3_find_10 rfl (lv_at hl 0 rfl) ?_
  refine lv_iload_n hx hb dX3_find_11 rfl (lv_at hl 2 rfl) ?_
  refine pH5_wanted hF hW q217 dX3_find_12 (fun H locs hW => ?_)
  have hW : pM G (HWl G ad (xf (xf (xi (scx x v0 to0 fi0 f1 f2) 21 (nI wn)) 1 (some pa)) 2 (some pb)) ++ T) s _ _ := hW
  refine lv_aload_n hx hb dX3_find_15 rfl (lv_at hl 0 rfl) ?_
  refine lv_iload hx hb dX3_find_16 (lv_at hl 4 rfl) ?_
  refine pH5_onlyOne hF hW q223 (by decide) (by decide) dX3_find_18 (fun H locs hW => ?_)
  have hW : pM G (HWl G ad (xf (xf (xi (xi (scx x v0 to0 fi0 f1 f2) 21 (nI wn)) 24 0) 1 (some pa)) 2 (some pb)) ++ T) s _ _ := hW
  refine lv_aload_n hx hb dX3_find_21 rfl (lv_at hl 0 rfl) ?_
  refine lv_iconst (v := 0) hx hb dX3_find_22 (by decide) ?_
  refine pH5_ways hF hW q221 dX3_find_23 (fun H locs hW => ?_)
  have hW : pM G (HWl G ad (xf (xf (xi (xi (xi (scx x v0 to0 fi0 f1 f2) 21 (nI wn)) 22 0) 24 0) 1 (some pa)) 2 (some pb)) ++ T) s _ _ := hW
  refine lv_iconst (v := 0) hx hb dX3_find_26 (by decide) ?_
  refine lv_istore (lv' := [(5, .int 0), (0, .ref (ad 5)), (1, .ref pa), (2, .int (nI wn)), (3, .ref pb), (4, .int 0)]) hx hb dX3_find_27 hl (by decide) rfl (fun ls hl => ?_)
  refine lv_iload hx hb dX3_find_29 (lv_at hl 0 rfl) ?_
  refine lv_bipush (v := 8) hx hb dX3_find_31 (by decide) ?_
  refine lv_icmp_ge (tgt := 50) hx hb dX3_find_33 (by decide) (fun c_33 => absurd c_33 (by decide)) (fun c_33 => ?_)
  refine lv_aload_n hx hb dX3_find_36 rfl (lv_at hl 1 rfl) ?_
  refine gH5_to hF hW q218 dX3_find_37 ?_
  refine lv_iload hx hb dX3_find_40 (lv_at hl 0 rfl) ?_
  refine lv_iconst (v := (-1)) hx hb dX3_find_42 (by decide) ?_
  refine sH6 hF hW (j := 0) (rfl) (by decide) dX3_find_43 (fun H locs hW => ?_)
  have hW : pM G (HWl G ad (xf (xf (xa (xi (xi (xi (scx x v0 to0 fi0 f1 f2) 21 (nI wn)) 22 0) 24 0) 2 (va_up ((scx x v0 to0 fi0 f1 f2).2.1 2) 0 (-1))) 1 (some pa)) 2 (some pb)) ++ T) s _ _ := hW
  refine lv_iinc (v := 1) (lv' := [(5, .int 1), (0, .ref (ad 5)), (1, .ref pa), (2, .int (nI wn)), (3, .ref pb), (4, .int 0)]) hx hb dX3_find_44 hl (k := 0) rfl (by decide) (by decide) rfl (fun ls hl => ?_)
  refine lv_goto (tgt := 29) hx hb dX3_find_47 (by decide) ?_
  refine lv_iload hx hb dX3_find_29 (lv_at hl 0 rfl) ?_
  refine lv_bipush (v := 8) hx hb dX3_find_31 (by decide) ?_
  refine lv_icmp_ge (tgt := 50) hx hb dX3_find_33 (by decide) (fun c_33 => absurd c_33 (by decide)) (fun c_33 => ?_)
  refine lv_aload_n hx hb dX3_find_36 rfl (lv_at hl 1 rfl) ?_
  refine gH5_to hF hW q218 dX3_find_37 ?_
  refine lv_iload hx hb dX3_find_40 (lv_at hl 0 rfl) ?_
  refine lv_iconst (v := (-1)) hx hb dX3_find_42 (by decide) ?_
  refine sH6 hF hW (j := 1) (rfl) (by decide) dX3_find_43 (fun H locs hW => ?_)
  have hW : pM G (HWl G ad (xf (xf (xa (xi (xi (xi (scx x v0 to0 fi0 f1 f2) 21 (nI wn)) 22 0) 24 0) 2 (va_up (va_up ((scx x v0 to0 fi0 f1 f2).2.1 2) 0 (-1)) 1 (-1))) 1 (some pa)) 2 (some pb)) ++ T) s _ _ := hW
  refine lv_iinc (v := 2) (lv' := [(5, .int 2), (0, .ref (ad 5)), (1, .ref pa), (2, .int (nI wn)), (3, .ref pb), (4, .int 0)]) hx hb dX3_find_44 hl (k := 0) rfl (by decide) (by decide) rfl (fun ls hl => ?_)
  refine lv_goto (tgt := 29) hx hb dX3_find_47 (by decide) ?_
  refine lv_iload hx hb dX3_find_29 (lv_at hl 0 rfl) ?_
  refine lv_bipush (v := 8) hx hb dX3_find_31 (by decide) ?_
  refine lv_icmp_ge (tgt := 50) hx hb dX3_find_33 (by decide) (fun c_33 => absurd c_33 (by decide)) (fun c_33 => ?_)
  refine lv_aload_n hx hb dX3_find_36 rfl (lv_at hl 1 rfl) ?_
  refine gH5_to hF hW q218 dX3_find_37 ?_
  refine lv_iload hx hb dX3_find_40 (lv_at hl 0 rfl) ?_
  refine lv_iconst (v := (-1)) hx hb dX3_find_42 (by decide) ?_
  refine sH6 hF hW (j := 2) (rfl) (by decide) dX3_find_43 (fun H locs hW => ?_)
  have hW : pM G (HWl G ad (xf (xf (xa (xi (xi (xi (scx x v0 to0 fi0 f1 f2) 21 (nI wn)) 22 0) 24 0) 2 (va_up (va_up (va_up ((scx x v0 to0 fi0 f1 f2).2.1 2) 0 (-1)) 1 (-1)) 2 (-1))) 1 (some pa)) 2 (some pb)) ++ T) s _ _ := hW
  refine lv_iinc (v := 3) (lv' := [(5, .int 3), (0, .ref (ad 5)), (1, .ref pa), (2, .int (nI wn)), (3, .ref pb), (4, .int 0)]) hx hb dX3_find_44 hl (k := 0) rfl (by decide) (by decide) rfl (fun ls hl => ?_)
  refine lv_goto (tgt := 29) hx hb dX3_find_47 (by decide) ?_
  refine lv_iload hx hb dX3_find_29 (lv_at hl 0 rfl) ?_
  refine lv_bipush (v := 8) hx hb dX3_find_31 (by decide) ?_
  refine lv_icmp_ge (tgt := 50) hx hb dX3_find_33 (by decide) (fun c_33 => absurd c_33 (by decide)) (fun c_33 => ?_)
  refine lv_aload_n hx hb dX3_find_36 rfl (lv_at hl 1 rfl) ?_
  refine gH5_to hF hW q218 dX3_find_37 ?_
  refine lv_iload hx hb dX3_find_40 (lv_at hl 0 rfl) ?_
  refine lv_iconst (v := (-1)) hx hb dX3_find_42 (by decide) ?_
  refine sH6 hF hW (j := 3) (rfl) (by decide) dX3_find_43 (fun H locs hW => ?_)
  have hW : pM G (HWl G ad (xf (xf (xa (xi (xi (xi (scx x v0 to0 fi0 f1 f2) 21 (nI wn)) 22 0) 24 0) 2 (va_up (va_up (va_up (va_up ((scx x v0 to0 fi0 f1 f2).2.1 2) 0 (-1)) 1 (-1)) 2 (-1)) 3 (-1))) 1 (some pa)) 2 (some pb)) ++ T) s _ _ := hW
  refine lv_iinc (v := 4) (lv' := [(5, .int 4), (0, .ref (ad 5)), (1, .ref pa), (2, .int (nI wn)), (3, .ref pb), (4, .int 0)]) hx hb dX3_find_44 hl (k := 0) rfl (by decide) (by decide) rfl (fun ls hl => ?_)
  refine lv_goto (tgt := 29) hx hb dX3_find_47 (by decide) ?_
  refine lv_iload hx hb dX3_find_29 (lv_at hl 0 rfl) ?_
  refine lv_bipush (v := 8) hx hb dX3_find_31 (by decide) ?_
  refine lv_icmp_ge (tgt := 50) hx hb dX3_find_33 (by decide) (fun c_33 => absurd c_33 (by decide)) (fun c_33 => ?_)
  refine lv_aload_n hx hb dX3_find_36 rfl (lv_at hl 1 rfl) ?_
  refine gH5_to hF hW q218 dX3_find_37 ?_
  refine lv_iload hx hb dX3_find_40 (lv_at hl 0 rfl) ?_
  refine lv_iconst (v := (-1)) hx hb dX3_find_42 (by decide) ?_
  refine sH6 hF hW (j := 4) (rfl) (by decide) dX3_find_43 (fun H locs hW => ?_)
  have hW : pM G (HWl G ad (xf (xf (xa (xi (xi (xi (scx x v0 to0 fi0 f1 f2) 21 (nI wn)) 22 0) 24 0) 2 (va_up (va_up (va_up (va_up (va_up ((scx x v0 to0 fi0 f1 f2).2.1 2) 0 (-1)) 1 (-1)) 2 (-1)) 3 (-1)) 4 (-1))) 1 (some pa)) 2 (some pb)) ++ T) s _ _ := hW
  refine lv_iinc (v := 5) (lv' := [(5, .int 5), (0, .ref (ad 5)), (1, .ref pa), (2, .int (nI wn)), (3, .ref pb), (4, .int 0)]) hx hb dX3_find_44 hl (k := 0) rfl (by decide) (by decide) rfl (fun ls hl => ?_)
  refine lv_goto (tgt := 29) hx hb dX3_find_47 (by decide) ?_
  refine lv_iload hx hb dX3_find_29 (lv_at hl 0 rfl) ?_
  refine lv_bipush (v := 8) hx hb dX3_find_31 (by decide) ?_
  refine lv_icmp_ge (tgt := 50) hx hb dX3_find_33 (by decide) (fun c_33 => absurd c_33 (by decide)) (fun c_33 => ?_)
  refine lv_aload_n hx hb dX3_find_36 rfl (lv_at hl 1 rfl) ?_
  refine gH5_to hF hW q218 dX3_find_37 ?_
  refine lv_iload hx hb dX3_find_40 (lv_at hl 0 rfl) ?_
  refine lv_iconst (v := (-1)) hx hb dX3_find_42 (by decide) ?_
  refine sH6 hF hW (j := 5) (rfl) (by decide) dX3_find_43 (fun H locs hW => ?_)
  have hW : pM G (HWl G ad (xf (xf (xa (xi (xi (xi (scx x v0 to0 fi0 f1 f2) 21 (nI wn)) 22 0) 24 0) 2 (va_up (va_up (va_up (va_up (va_up (va_up ((scx x v0 to0 fi0 f1 f2).2.1 2) 0 (-1)) 1 (-1)) 2 (-1)) 3 (-1)) 4 (-1)) 5 (-1))) 1 (some pa)) 2 (some pb)) ++ T) s _ _ := hW
  refine lv_iinc (v := 6) (lv' := [(5, .int 6), (0, .ref (ad 5)), (1, .ref pa), (2, .int (nI wn)), (3, .ref pb), (4, .int 0)]) hx hb dX3_find_44 hl (k := 0) rfl (by decide) (by decide) rfl (fun ls hl => ?_)
  refine lv_goto (tgt := 29) hx hb dX3_find_47 (by decide) ?_
  refine lv_iload hx hb dX3_find_29 (lv_at hl 0 rfl) ?_
  refine lv_bipush (v := 8) hx hb dX3_find_31 (by decide) ?_
  refine lv_icmp_ge (tgt := 50) hx hb dX3_find_33 (by decide) (fun c_33 => absurd c_33 (by decide)) (fun c_33 => ?_)
  refine lv_aload_n hx hb dX3_find_36 rfl (lv_at hl 1 rfl) ?_
  refine gH5_to hF hW q218 dX3_find_37 ?_
  refine lv_iload hx hb dX3_find_40 (lv_at hl 0 rfl) ?_
  refine lv_iconst (v := (-1)) hx hb dX3_find_42 (by decide) ?_
  refine sH6 hF hW (j := 6) (rfl) (by decide) dX3_find_43 (fun H locs hW => ?_)
  have hW : pM G (HWl G ad (xf (xf (xa (xi (xi (xi (scx x v0 to0 fi0 f1 f2) 21 (nI wn)) 22 0) 24 0) 2 (va_up (va_up (va_up (va_up (va_up (va_up (va_up ((scx x v0 to0 fi0 f1 f2).2.1 2) 0 (-1)) 1 (-1)) 2 (-1)) 3 (-1)) 4 (-1)) 5 (-1)) 6 (-1))) 1 (some pa)) 2 (some pb)) ++ T) s _ _ := hW
  refine lv_iinc (v := 7) (lv' := [(5, .int 7), (0, .ref (ad 5)), (1, .ref pa), (2, .int (nI wn)), (3, .ref pb), (4, .int 0)]) hx hb dX3_find_44 hl (k := 0) rfl (by decide) (by decide) rfl (fun ls hl => ?_)
  refine lv_goto (tgt := 29) hx hb dX3_find_47 (by decide) ?_
  refine lv_iload hx hb dX3_find_29 (lv_at hl 0 rfl) ?_
  refine lv_bipush (v := 8) hx hb dX3_find_31 (by decide) ?_
  refine lv_icmp_ge (tgt := 50) hx hb dX3_find_33 (by decide) (fun c_33 => absurd c_33 (by decide)) (fun c_33 => ?_)
  refine lv_aload_n hx hb dX3_find_36 rfl (lv_at hl 1 rfl) ?_
  refine gH5_to hF hW q218 dX3_find_37 ?_
  refine lv_iload hx hb dX3_find_40 (lv_at hl 0 rfl) ?_
  refine lv_iconst (v := (-1)) hx hb dX3_find_42 (by decide) ?_
  refine sH6 hF hW (j := 7) (rfl) (by decide) dX3_find_43 (fun H locs hW => ?_)
  have hW : pM G (HWl G ad (xf (xf (xa (xi (xi (xi (scx x v0 to0 fi0 f1 f2) 21 (nI wn)) 22 0) 24 0) 2 (va_up (va_up (va_up (va_up (va_up (va_up (va_up (va_up ((scx x v0 to0 fi0 f1 f2).2.1 2) 0 (-1)) 1 (-1)) 2 (-1)) 3 (-1)) 4 (-1)) 5 (-1)) 6 (-1)) 7 (-1))) 1 (some pa)) 2 (some pb)) ++ T) s _ _ := hW
  refine lv_iinc (v := 8) (lv' := [(5, .int 8), (0, .ref (ad 5)), (1, .ref pa), (2, .int (nI wn)), (3, .ref pb), (4, .int 0)]) hx hb dX3_find_44 hl (k := 0) rfl (by decide) (by decide) rfl (fun ls hl => ?_)
  refine lv_goto (tgt := 29) hx hb dX3_find_47 (by decide) ?_
  refine lv_iload hx hb dX3_find_29 (lv_at hl 0 rfl) ?_
  refine lv_bipush (v := 8) hx hb dX3_find_31 (by decide) ?_
  refine lv_icmp_ge (tgt := 50) hx hb dX3_find_33 (by decide) (fun c_33 => ?_) (fun c_33 => absurd c_33 (by decide))
  refine lv_aload_n hx hb dX3_find_50 rfl (lv_at hl 1 rfl) ?_
  refine lv_iconst (v := 0) hx hb dX3_find_51 (by decide) ?_
  refine lv_iconst (v := 0) hx hb dX3_find_52 (by decide) ?_
  have hla := hoka.2.2.1
  have hlb := hokb.2.2.1
  have hsl : (solsF (x.2.1 4) a b wn a.1.length []).length ≤ 16777216 := sols_lt hlb (by omega)
  have hto9 : ∀ i, i < 8 → (va_up (va_up (va_up (va_up (va_up (va_up (va_up (va_up ((scx x v0 to0 fi0 f1 f2).2.1 2) 0 (-1)) 1 (-1)) 2 (-1)) 3 (-1)) 4 (-1)) 5 (-1)) 6 (-1)) 7 (-1)) i = enc (([] : List (Option Nat)).getD i none) := fun i hi => by match i, hi with | 0, _ => rfl | 1, _ => rfl | 2, _ => rfl | 3, _ => rfl | 4, _ => rfl | 5, _ => rfl | 6, _ => rfl | 7, _ => rfl
  have hW : pM G (HWl G ad (fdx (xf (xf (xi (xi (scx x v0 to0 fi0 f1 f2) 21 (nI wn)) 24 0) 1 (some pa)) 2 (some pb)) (nI 0) (v0 23) (va_up (va_up (va_up (va_up (va_up (va_up (va_up (va_up ((scx x v0 to0 fi0 f1 f2).2.1 2) 0 (-1)) 1 (-1)) 2 (-1)) 3 (-1)) 4 (-1)) 5 (-1)) 6 (-1)) 7 (-1)) fi0) ++ T) s _ _ := hW
  refine cl_v (ru_V (mc := 0) (ms := 0) (As := [.int 0, .int 0]) (rest := []) hF (mX3_goes_false l G ad (xf (xf (xi (xi (scx x v0 to0 fi0 f1 f2) 21 (nI wn)) 24 0) 1 (some pa)) 2 (some pb)) T pa pb a b ha9 hb9 rfl rfl nW hwd hW60 hoka hokb wn hwn rfl rfl a.1.length [] 0 (v0 23) (va_up (va_up (va_up (va_up (va_up (va_up (va_up (va_up ((scx x v0 to0 fi0 f1 f2).2.1 2) 0 (-1)) 1 (-1)) 2 (-1)) 3 (-1)) 4 (-1)) 5 (-1)) 6 (-1)) 7 (-1)) fi0 (Nat.zero_add _) hto9 (fun i p h => by cases i <;> cases h) (fun _ => rfl) (by have := hsl; show 0 + (solsF (x.2.1 4) a b wn a.1.length []).length < 2147483648; omega)) (cwV 2 hts (lw_V q754 q756 qs19 q65 q757) rfl rfl rfl (by decide +kernel) ⟨by rw [hR1]; dsimp only [rmG]; omega, by rw [hR4]; dsimp only [rmG]; omega⟩) hW (List.mem_of_getElem? (i := 5) rfl) (ci := 3) rfl rfl rfl hl.1 rfl (lv_room (Nat.le_of_ble_eq_true rfl)) dX3_find_53 ⟨by omega, by omega⟩) hW (fun u_ H locs h_ hW => ?_)
  obtain ⟨w2, fp2, to2, fi2⟩ := u_
  obtain ⟨r1, r2, r3⟩ := h_
  have r1 : w2 = nI (wC false 0 (solsF (x.2.1 4) a b wn a.1.length []).length) := r1
  have hW : pM G (HWl G ad (fdx (xf (xf (xi (xi (scx x v0 to0 fi0 f1 f2) 21 (nI wn)) 24 0) 1 (some pa)) 2 (some pb)) w2 fp2 to2 fi2) ++ T) s _ _ := hW
  refine lv_aload_n hx hb dX3_find_56 rfl (lv_at hl 1 rfl) ?_
  refine gH5_ways hF hW q221 (v := w2) (rfl) dX3_find_57 ?_
  exact re_i hF hRt hLk hQ (by omega) (by omega) dX3_find_60 (va_up (va_up (va_up (va_up v0 21 (nI wn)) 24 0) 22 w2) 23 fp2, to2, fi2, some pa, some pb) (⟨r1, r3⟩) hW

theorem all_v : ∀ k, k < 9 → (1 : Int32) <<< (nI k &&& 31) - 1 = nI (2 ^ k - 1) := by decide +kernel
set_option maxRecDepth 100000 in
set_option maxHeartbeats 4000000 in
theorem mX0_all (l : Launch) (G : pG) (ws : va_W) (p : Nat) (t : Tx) (hp : HT G ws p t) (hlen : t.1.length ≤ 8) : Met l yX0_all (ws_ yX0_all cX0_all 1 (some .int)) ({ frames := 0, cells := 0, slots := 0, locals := 0 } : Room) (va_Pc [.ref p] (fun U => pW G (ws) U)) (va_Qi (fun r (_ : Unit) => r = nI (2 ^ t.1.length - 1)) (fun (u : Unit) t9 => pW G (ws) t9) (pA G)) 0 0 (pA G) := by
  refine mw (by decide) (Nat.le_of_ble_eq_true rfl) ?_
  intro pp ee R s m below meth c ls Q hF hRt hLk hnm hR hQ hW hl
  have hx := hF.1
  have hb := hF.2.1
  have hts := hF.2.2.2.2
  have hR1 : R.frames = 0 := by rw [hR]
  have hR2 : R.cells = 0 := by rw [hR]
  have hR3 : R.slots = 0 := by rw [hR]
  have hR4 : R.locals = 0 := by rw [hR]
  have hl : lv_has ls 1 [(0, .ref p)] := hl
  have hW : pM G (ws) s s.heap [] := hW
  obtain ⟨anp, awp, alp, nfp, lfp, wfp, hp1, hp2, hp3, hp4, hp5⟩ := hp
  refine lv_iconst (v := 1) hx hb dX0_all_0 (by decide) ?_
  refine lv_aload_n hx hb dX0_all_1 rfl (lv_at hl 0 rfl) ?_
  refine gt hF hW hp1 (ci := 4) rfl in_X10 3 (by decide) q555 rfl (v := .int (nI t.1.length)) rfl dX0_all_2 ?_
  refine lv_ishl hx hb dX0_all_5 ?_
  refine lv_iconst (v := 1) hx hb dX0_all_6 (by decide) ?_
  refine lv_isub hx hb dX0_all_7 ?_
  refine lv_eqi (show (1 <<< ((nI t.1.length) &&& 31)) - 1 = nI (2 ^ t.1.length - 1) from all_v _ (by omega)) ?_
  exact re_i hF hRt hLk hQ (by omega) (by omega) dX0_all_8 () (rfl) hW
