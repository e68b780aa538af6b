/-! small numbers; catching; further calls -/
theorem nle_lt {a b : Nat} (h : ¬ nI a ≤ nI b) (ha : a < 2147483648 := by omega) (hb : b < 2147483648 := by omega) : b < a := by
  have : ¬ a ≤ b := fun z => h ((nI_leI (a := a) (b := b) (by omega) (by omega)).mpr z)
  omega
theorem le_le {a b : Nat} (h : nI a ≤ nI b) (ha : a < 2147483648 := by omega) (hb : b < 2147483648 := by omega) : a ≤ b := (nI_leI (by omega) (by omega)).mp h
theorem lt_lt {a b : Nat} (h : nI a < nI b) (ha : a < 2147483648 := by omega) (hb : b < 2147483648 := by omega) : a < b := (nI_ltI (by omega) (by omega)).mp h
theorem nlt_le {a b : Nat} (h : ¬ nI a < nI b) (ha : a < 2147483648 := by omega) (hb : b < 2147483648 := by omega) : b ≤ a := by
  have : ¬ a < b := fun z => h ((nI_ltI (a := a) (b := b) (by omega) (by omega)).mpr z)
  omega
theorem eq_eq {a b : Nat} (h : nI a = nI b) (ha : a < 2147483648 := by omega) (hb : b < 2147483648 := by omega) : a = b := (nI_eq (by omega) (by omega)).mp h
theorem ne_ne {a b : Nat} (h : ¬ nI a = nI b) : a ≠ b := fun z => h (by rw [z])
theorem nI_ne_m1 {a : Nat} (ha : a < 2147483648 := by omega) : ¬ nI a = -1 := by
  intro h
  have h2 := congrArg Int32.toInt h
  rw [nI_toInt (by omega)] at h2
  have h3 : (-1 : Int32).toInt = -1 := by decide
  rw [h3] at h2
  omega
section MORE
variable {p : Program} {l : Launch} {e : Env} {R : Room} {s : State} {m : MethodId} {args : Array Value} {below : List Frame} {meth : Method} {c : Code} {H : Heap} {locs : List Loc} {cells slots : Nat} {Q : State → Prop}
variable {cc : ByteArray} {pc nL : Nat} {ls : Array Slot} {rest : List Value} {G : pG} {ws ws0 : va_W} {own : String} {a ci N index : Nat} {fs : List Value} {Cn ref : String} {T : u_T}
variable {y : MethodName} {bytes : ByteArray} {maxL mc ms n : Nat} {ret : Option FieldType} {wl : List Cond} {rm : Room} {Pc : Array Value → State → Prop} {Qc : Array Value → State → Outcome → State → Prop} {free : Addr → Prop} {b : Nat} {As : List Value} {g : JFrame} {st0 : List Value} {ar : Array Value}
/-- caught by the first row of the table -/
theorem ca {E : String} {fr to tg ty q : Nat} {hs : List (Nat × Nat × Nat × Nat)} (hF : CallFix p m c cc nL s args lw_all own) (htab : c.exceptionTable.toList = tableOf ((fr, to, tg, ty) :: hs)) (h1 : Nat.ble fr pc = true) (h2 : Nat.ble (pc + 1) to = true) (h0 : ty ≠ 0) (hl : Cond.classLink own ty E ∈ lw_all) (hca : Cond.castable E E ∈ pNst) (hW : pM G ws s H locs) (hm : (q, .inr (ci, fs)) ∈ ws) (hcl : vwCl[ci]? = some (E, T, N))
    (kk : W p l e R s m args below meth c H locs cells slots Q (F0 m tg ls [.ref q])) : vx_W p l e R s m args below meth c H locs cells slots Q (F0 m pc ls rest) q := by
  obtain ⟨q0, hq⟩ := List.getElem?_of_mem hm
  obtain ⟨q', g0, cell, k1, k2, k3, -⟩ := hW.2.1 q0 _ hq
  have g1 := Nat.le_of_ble_eq_true h1
  have g2 := Nat.le_of_ble_eq_true h2
  refine vx_catch (E := E) (ce := cell) (name := E) hF.2.2.2.1 [] ⟨fr, to, tg, ty⟩ (tableOf hs) htab (fun z hz => absurd hz (List.not_mem_nil)) ?_ h0 (hF.2.2.2.2 _ hl) (va_Nw.use rfl (hW.2.2.2.2.2.1 _ hca)) k1 k3 ?_ kk
  · simp only [covers, Bool.and_eq_true, decide_eq_true_eq]
    exact ⟨g1, g2⟩
  · rw [k2]; exact (hW.1.1 ci _ hcl).2.1
theorem ru_VN {host : String} (S : CallFix p m c cc nL s args lw_all own) (hM : Met l y wl rm (va_Pc (.ref b :: As) (fun U => pW G ws U)) Qc mc ms free) (cw : va_CN R s args own index y host bytes maxL ret wl rm mc ms n ∧ (Cond.instanceMethod y).before args s = true ∧ (Cond.selects Cn y y).before args s = true) (hW : pM G ws s H locs) (hm : (b, .inr (ci, fs)) ∈ ws) (hc : vwCl[ci]? = some (Cn, T, N))
    (hg : g.method = m) (hn : As.length = n) (hsize : g.locals.size = nL) (hstack : g.stack = As.reverse ++ .ref b :: rest) (hR : 2 * g.monitorRoom + (rest.map fun v => v.category).sum ≤ 8) (hdg : decode cc g.pc = .ok (.invokevirtual index, 3)) (hf : cells + mc ≤ R.cells ∧ slots + ms ≤ R.slots) :
    va_Run p l e R s m args below meth c H locs cells slots mc ms g rest (Qc (Value.ref b :: As).toArray) free :=
  va_runVN S hM cw ⟨pBlind, rcv hW hm hc, fun U hU hw => ⟨rfl, hW.toW hU hw⟩⟩ hg hn hsize hstack hR hdg hf
theorem ru_IN {host : String} (S : CallFix p m c cc nL s args lw_all own) (hM : Met l y wl rm (va_Pc (.ref b :: As) (fun U => pW G ws U)) Qc mc ms free) (cw : va_CN R s args own index y host bytes maxL none wl rm mc ms n ∧ y.name = "<init>" ∧ (Cond.instanceMethod y).before args s = true) (hW : pM G ws s H locs)
    (hg : g.method = m) (hn : As.length = n) (hsize : g.locals.size = nL) (hstack : g.stack = As.reverse ++ .ref b :: rest) (hR : 2 * g.monitorRoom + (rest.map fun v => v.category).sum ≤ 8) (hdg : decode cc g.pc = .ok (.invokespecial index, 3)) (hf : cells + mc ≤ R.cells ∧ slots + ms ≤ R.slots) :
    va_Run p l e R s m args below meth c H locs cells slots mc ms g rest (Qc (Value.ref b :: As).toArray) free :=
  va_runIN S hM cw ⟨pBlind, fun U hU hw => ⟨rfl, hW.toW hU hw⟩⟩ hg hn hsize hstack hR hdg hf
end MORE

