/-! the layer: one world, one environment, rows over them -/
abbrev vwCl : List vw_C := [(RX0, TX0, 27), (RX1, TX1, 8), (RX2, TX2, 9), (RX3, TX3, 9), (RX10, TX10, 5), (RX11, TX11, 3), (RX12, TX12, 2), (RX13, TX13, 3), (RX16, TX16, 3), (RX18, TX18, 7), (RX8, TX8, 1), (RX9, TX9, 2), (RX14, TX14, 1), (RX15, TX15, 1), (RX17, TX17, 1), (RX19, TX19, 1), (RX20, TX20, 3), (RX21, TX21, 2), (RX22, TX22, 2), (RJ3, TJ3, 4), (RX4, TX4, 49), (RX5, TX5, 8), (RX6, TX6, 7)]
abbrev pG : Type := (Nat → ClassId) × (Nat → Nat → Nat) × (Nat → ClassId) × Nat × Nat
def pA (G : pG) : Nat → Prop := fun q => G.2.2.2.1 ≤ q
abbrev pD (G : pG) : va_G := (G.1, G.2.1)
abbrev pT (G : pG) : List (ClassId × FieldType) := [(G.2.2.1 0, .int), (G.2.2.1 1, .byte), (G.2.2.1 2, .char), (G.2.2.1 3, .long), (G.2.2.1 4, .object "java/lang/String"), (G.2.2.1 5, .object "PatentHall$Paper"), (G.2.2.1 6, .object "PatentHall$Filing"), (G.2.2.1 7, .object "PatentHall$Told"), (G.2.2.1 8, .object "PatentHall$Claim"), (G.2.2.1 9, .object "PatentHall$Act"), (G.2.2.1 10, .object "PatentHall$Link"), (G.2.2.1 11, .object "PatentHallModel$Text")]
def pNst : List Cond := [(.fieldLinkNest "PatentHall" 318 "PatentHall$Finder" "first" "[I" "PatentHall"), (.fieldLinkNest "PatentHall$3" 13 "PatentHall" "paperMany" "I" "PatentHall"), (.fieldLinkNest "PatentHall$4" 13 "PatentHall" "thingMany" "I" "PatentHall"), (.fieldLinkNest "PatentHall$5" 13 "PatentHall" "fileMany" "I" "PatentHall"), (.fieldLinkNest "PatentHall$6" 13 "PatentHall" "claimMany" "I" "PatentHall"), (.fieldLinkNest "PatentHallModel" 136 "PatentHallModel$Stop" "kind" "I" "PatentHallModel"), (.fieldLinkNest "PatentHallModel" 139 "PatentHallModel$Stop" "place" "I" "PatentHallModel"), (.fieldLinkNest "PatentHallModel" 196 "PatentHallModel$Text" "parts" "I" "PatentHallModel"), (.fieldLinkNest "PatentHallModel" 205 "PatentHallModel$Text" "links" "I" "PatentHallModel"), (.fieldLinkNest "PatentHallModel" 199 "PatentHallModel$Text" "name" "[J" "PatentHallModel"), (.fieldLinkNest "PatentHallModel" 202 "PatentHallModel$Text" "word" "[I" "PatentHallModel"), (.fieldLinkNest "PatentHallModel" 208 "PatentHallModel$Text" "from" "[I" "PatentHallModel"), (.fieldLinkNest "PatentHallModel" 211 "PatentHallModel$Text" "verb" "[I" "PatentHallModel"), (.fieldLinkNest "PatentHallModel" 214 "PatentHallModel$Text" "to" "[I" "PatentHallModel"), (.fieldLinkNest "PatentHall$1" 13 "PatentHall" "wordMany" "I" "PatentHall"), (.fieldLinkNest "PatentHall$2" 17 "PatentHall" "now" "I" "PatentHall"), (.methodLinkNest "PatentHall" 24 ⟨"PatentHall$Finder", "<init>", "(LPatentHall;)V"⟩ "PatentHall"), (.methodLinkNest "PatentHall$Reader" 74 ⟨"PatentHall", "wordOf", "(Ljava/lang/String;)I"⟩ "PatentHall"), (.methodLinkNest "PatentHall$3" 7 ⟨"PatentHall$Act", "<init>", "()V"⟩ "PatentHall"), (.methodLinkNest "PatentHall$4" 7 ⟨"PatentHall$Act", "<init>", "()V"⟩ "PatentHall"), (.methodLinkNest "PatentHall$5" 7 ⟨"PatentHall$Act", "<init>", "()V"⟩ "PatentHall"), (.methodLinkNest "PatentHall$6" 7 ⟨"PatentHall$Act", "<init>", "()V"⟩ "PatentHall"), (.methodLinkNest "PatentHall$7" 15 ⟨"PatentHall$Act", "<init>", "()V"⟩ "PatentHall"), (.methodLinkNest "PatentHall$8" 13 ⟨"PatentHall$Act", "<init>", "()V"⟩ "PatentHall"), (.methodLinkNest "PatentHall$9" 13 ⟨"PatentHall$Act", "<init>", "()V"⟩ "PatentHall"), (.methodLinkNest "PatentHall$Finder" 61 ⟨"PatentHall", "isUnder", "(II)Z"⟩ "PatentHall"), (.methodLinkNest "PatentHallModel" 95 ⟨"PatentHallModel$Text", "<init>", "()V"⟩ "PatentHallModel"), (.methodLinkNest "PatentHall$1" 7 ⟨"PatentHall$Act", "<init>", "()V"⟩ "PatentHall"), (.methodLinkNest "PatentHall$2" 11 ⟨"PatentHall$Act", "<init>", "()V"⟩ "PatentHall"), (.castable "PatentHall$Paper" "PatentHall$Told"), (.castable "PatentHall$3" "PatentHall$Act"), (.castable "PatentHall$4" "PatentHall$Act"), (.castable "PatentHall$Filing" "PatentHall$Told"), (.castable "PatentHall$5" "PatentHall$Act"), (.castable "PatentHall$6" "PatentHall$Act"), (.castable "PatentHall$Refused" "PatentHall$Refused"), (.castable "PatentHall$7" "PatentHall$Act"), (.castable "PatentHall$8" "PatentHall$Act"), (.castable "PatentHall$9" "PatentHall$Act"), (.castable "PatentHallModel$Stop" "PatentHallModel$Stop"), (.castable "PatentHall$1" "PatentHall$Act"), (.castable "PatentHall$2" "PatentHall$Act"), (.declares ⟨"java/lang/Throwable", "<init>", "()V"⟩), (.declares ⟨"java/lang/Throwable", "<init>", "(Ljava/lang/String;)V"⟩), (.declares ⟨"java/lang/Exception", "<init>", "()V"⟩), (.declares ⟨"java/lang/Exception", "<init>", "(Ljava/lang/String;)V"⟩), (.declares ⟨"java/lang/RuntimeException", "<init>", "()V"⟩), (.declares ⟨"java/lang/RuntimeException", "<init>", "(Ljava/lang/String;)V"⟩), (.declares ⟨"PatentHall$Told", "isKnown", "(I)Z"⟩), (.declares ⟨"PatentHall$Act", "undo", "()V"⟩)]
def pOc : List String := ["java/lang/String", "PatentHall$Paper", "PatentHall$Filing", "PatentHall$Told", "PatentHall$Claim", "PatentHall$Act", "PatentHall$Link", "PatentHallModel$Text"]

def nwOk (w : Cond) : Bool := match w with
  | .fieldLinkNest _ _ _ _ _ _ => true
  | .methodLinkNest _ _ _ _ => true
  | .castable _ _ => true
  | .declares _ => true
  | _ => false
theorem nw_warm {s U : State} {w : Cond} (hW : s.WarmedH U.vm) (hk : nwOk w = true) (z : va_Nw w s) : va_Nw w U := by
  cases w <;> first
    | exact va_Nw.warmF hW z
    | exact va_Nw.warmM hW z
    | exact va_Nw.warmC hW z
    | exact va_Nw.warmD hW z
    | (simp [nwOk] at hk)
theorem nw_tab {w : Cond} (hk : nwOk w = true) : w.onTables = true := by
  cases w <;> first
    | rfl
    | (simp [nwOk] at hk)
theorem pNst_ok : ∀ w ∈ pNst, nwOk w = true := List.all_eq_true.mp (by decide +kernel)
def pE (G : pG) (U : State) (H : Heap) : Prop :=
  G.2.2.2.1 ≤ H.size ∧ (∀ w ∈ pNst, va_Nw w U) ∧ (∀ C ∈ pOc, va_AO C U) ∧
  va_Z "java/lang/String" "COMPACT_STRINGS" "Z" (.int 1) (pA G) U H ∧
  va_Zq "jdk/internal/util/Preconditions" "SIOOBE_FORMATTER" "Ljava/util/function/BiFunction;" (pA G) U H ∧
  va_Zq "java/lang/Throwable" "UNASSIGNED_STACK" "[Ljava/lang/StackTraceElement;" (pA G) U H ∧
  va_Zq "java/lang/Throwable" "SUPPRESSED_SENTINEL" "Ljava/util/List;" (pA G) U H ∧
  vk_R "PatentHall$Reader" 58 "" G.2.2.2.2 U
def pW (G : pG) (ws : va_W) (U : State) : Prop := va_K (pD G) vwCl (pT G) U ∧ va_P (pD G) vwCl ws U.heap ∧ va_D (pA G) ws ∧ pE G U U.heap
def pM (G : pG) (ws : va_W) (s : State) (H : Heap) (locs : List Loc) : Prop := va_K (pD G) vwCl (pT G) s ∧ va_P (pD G) vwCl ws H ∧ va_D (pA G) ws ∧ va_S (pA G) s.heap H locs ∧ pE G s s.heap
theorem pM.start {G : pG} {ws : va_W} {s : State} (h : pW G ws s) : pM G ws s s.heap [] := ⟨h.1, h.2.1, h.2.2.1, va_S.rf, h.2.2.2⟩
theorem pE.move {G : pG} {s U : State} {H : Heap} {locs : List Loc} (h : pE G s s.heap) (hW : s.WarmedH U.vm) (hS : va_S (pA G) s.heap H locs) (hU : U.heap = H) : pE G U U.heap := by
  obtain ⟨h1, h2, h3, h4, h5, h6, h7, h8⟩ := h
  rw [hU]
  have kp : ∀ a : Nat, a < s.heap.size → ¬ pA G a → H[a]? = s.heap[a]? := hS.2.1
  exact ⟨Nat.le_trans h1 hS.1, fun w hw => nw_warm hW (pNst_ok w hw) (h2 w hw), fun C hC => (h3 C hC).moved hW.alike, (h4.kept kp).moved hW.alike, (h5.kept kp).moved hW.alike, (h6.kept kp).moved hW.alike, (h7.kept kp).moved hW.alike, vk_R.warm hW h8⟩
theorem pE.calling {G : pG} {U : State} {g : JFrame} {mk : MethodId} {a : Array Value} (h : pE G U U.heap) : pE G (U.calling g mk a) U.heap := by
  obtain ⟨h1, h2, h3, h4, h5, h6, h7, h8⟩ := h
  exact ⟨h1, fun w hw => va_Nw.same (u := U) (nw_tab (pNst_ok w hw)) rfl (h2 w hw), fun C hC => va_AO.moved (u := U) (Vm.Alike.refl U.vm) (h3 C hC), va_Z.moved (u := U) (Vm.Alike.refl U.vm) h4, va_Zq.moved (u := U) (Vm.Alike.refl U.vm) h5, va_Zq.moved (u := U) (Vm.Alike.refl U.vm) h6, va_Zq.moved (u := U) (Vm.Alike.refl U.vm) h7, vk_R.same (u := U) rfl h8⟩
theorem pW.calling {G : pG} {ws : va_W} {U : State} {g : JFrame} {mk : MethodId} {a : Array Value} (h : pW G ws U) : pW G ws (U.calling g mk a) :=
  ⟨va_K.moved (u := U) (U := U.calling g mk a) (Vm.Alike.refl U.vm) h.1, h.2.1, h.2.2.1, pE.calling h.2.2.2⟩
theorem pBlind {G : pG} {ws : va_W} {av : List Value} : FrameBlind (va_Pc av (fun U => pW G ws U)) := fun _ _ _ _ q => ⟨q.1, q.2.calling⟩
theorem pM.toW {G : pG} {ws : va_W} {s U : State} {H : Heap} {locs : List Loc} (h : pM G ws s H locs) (hU : U.heap = H) (hW : s.WarmedH U.vm) : pW G ws U := by
  obtain ⟨hK, hP, hD, hS, hE⟩ := h
  exact ⟨va_K.moved hW.alike hK, by rw [hU]; exact hP, hD, pE.move hE hW hS hU⟩
theorem pM.back {G : pG} {ws ws1 : va_W} {s t : State} {H H1 : Heap} {locs locs1 : List Loc} (h : pM G ws s H locs) (ht : t.heap = H1) (h1 : pW G ws1 t) (hS1 : va_S (pA G) s.heap H1 locs1) : pM G ws1 s H1 locs1 :=
  ⟨h.1, by rw [← ht]; exact h1.2.1, h1.2.2.1, hS1, h.2.2.2.2⟩
theorem pM.new {G : pG} {ws : va_W} {s : State} {H : Heap} {locs : List Loc} (h : pM G ws s H locs) : ∀ q, s.heap.size ≤ q → pA G q := fun _ hq => Nat.le_trans h.2.2.2.2.1 hq
/-! worlds up to order -/
theorem va_D_iff {A : Nat → Prop} {ws : va_W} : va_D A ws ↔ (ws.map Prod.fst).Nodup ∧ ∀ q ∈ ws, A q.1 := by
  constructor
  · intro h
    refine ⟨?_, fun q hq => ?_⟩
    · show List.Pairwise (fun a b => a ≠ b) (ws.map Prod.fst)
      rw [List.pairwise_map, List.pairwise_iff_getElem]
      intro i j hi hj hij heq
      have := h.1 i j _ _ (List.getElem?_eq_getElem hi) (List.getElem?_eq_getElem hj) heq
      omega
    · obtain ⟨k, hk⟩ := List.getElem?_of_mem hq
      exact h.2 k q hk
  · intro h
    refine ⟨fun i j p q hi hj hpq => ?_, fun k q hk => h.2 q (List.mem_of_getElem? hk)⟩
    have hn : List.Pairwise (fun a b => a.1 ≠ b.1) ws := List.pairwise_map.mp h.1
    rw [List.pairwise_iff_getElem] at hn
    obtain ⟨hil, rfl⟩ := List.getElem?_eq_some_iff.mp hi
    obtain ⟨hjl, rfl⟩ := List.getElem?_eq_some_iff.mp hj
    rcases Nat.lt_trichotomy i j with z | z | z
    · exact absurd hpq (hn i j hil hjl z)
    · exact z
    · exact absurd hpq.symm (hn j i hjl hil z)
theorem va_P_iff {D : va_G} {cl : List vw_C} {ws : va_W} {H : Heap} : va_P D cl ws H ↔ ∀ q ∈ ws, va_at D cl q H :=
  ⟨fun h q hq => by obtain ⟨k, hk⟩ := List.getElem?_of_mem hq; exact h k q hk, fun h k q hk => h q (List.mem_of_getElem? hk)⟩
theorem pM.perm {G : pG} {ws ws1 : va_W} {s : State} {H : Heap} {locs : List Loc} (h : pM G ws s H locs) (hp : List.Perm ws ws1) : pM G ws1 s H locs := by
  obtain ⟨hK, hP, hD, hS, hE⟩ := h
  refine ⟨hK, va_P_iff.mpr fun q hq => va_P_iff.mp hP q (hp.mem_iff.mpr hq), ?_, hS, hE⟩
  rw [va_D_iff] at hD ⊢
  exact ⟨(hp.map Prod.fst).nodup_iff.mp hD.1, fun q hq => hD.2 q (hp.mem_iff.mpr hq)⟩
theorem pW.perm {G : pG} {ws ws1 : va_W} {U : State} (h : pW G ws U) (hp : List.Perm ws ws1) : pW G ws1 U := by
  obtain ⟨hK, hP, hD, hE⟩ := h
  refine ⟨hK, va_P_iff.mpr fun q hq => va_P_iff.mp hP q (hp.mem_iff.mpr hq), ?_, hE⟩
  rw [va_D_iff] at hD ⊢
  exact ⟨(hp.map Prod.fst).nodup_iff.mp hD.1, fun q hq => hD.2 q (hp.mem_iff.mpr hq)⟩
theorem pM.sl {G : pG} {ws ws1 : va_W} {s : State} {H : Heap} {locs : List Loc} (h : pM G ws s H locs) (hp : List.Sublist ws1 ws) : pM G ws1 s H locs := by
  obtain ⟨hK, hP, hD, hS, hE⟩ := h
  refine ⟨hK, va_P_iff.mpr fun q hq => va_P_iff.mp hP q (hp.subset hq), ?_, hS, hE⟩
  rw [va_D_iff] at hD ⊢
  exact ⟨(hp.map Prod.fst).nodup hD.1, fun q hq => hD.2 q (hp.subset hq)⟩
theorem pM.ne {G : pG} {ws : va_W} {s : State} {H : Heap} {locs : List Loc} (h : pM G ws s H locs) (i j : Nat) (hij : i ≠ j) {a b : Nat} {ea eb : va_E} (ha : ws[i]? = some (a, ea)) (hb : ws[j]? = some (b, eb)) : a ≠ b := fun z => hij (h.2.2.1.1 i j _ _ ha hb z)
/-- one address, one cell -/
theorem pM.same {G : pG} {ws : va_W} {s : State} {H : Heap} {locs : List Loc} (h : pM G ws s H locs) {a : Nat} {e1 e2 : va_E} (h1 : (a, e1) ∈ ws) (h2 : (a, e2) ∈ ws) : e1 = e2 := by
  obtain ⟨i, hi⟩ := List.getElem?_of_mem h1
  obtain ⟨j, hj⟩ := List.getElem?_of_mem h2
  have := h.2.2.1.1 i j _ _ hi hj rfl
  subst this
  rw [hi] at hj
  cases hj
  rfl
section LAY
variable {p : Program} {l : Launch} {e : Env} {R : Room} {s : State} {m : MethodId} {args : Array Value} {below : List Frame} {meth : Method} {c : Code} {H : Heap} {locs : List Loc} {cells slots : Nat} {Q : State → Prop}
variable {cc : ByteArray} {pc nL : Nat} {ls : Array Slot} {rest : List Value} {G : pG} {ws ws0 : va_W} {own : String} {a ci N index : Nat} {fs : List Value} {Cn ref : String} {T : u_T}
/-- a field of a thing of the world -/
theorem gt (S : CallFix p m c cc nL s args lw_all own) (hW : pM G ws s H locs) (hm : (a, .inr (ci, fs)) ∈ ws) (hc : vwCl[ci]? = some (Cn, T, N)) (hin : ∀ w ∈ u_ws Cn T N, w ∈ lw_all) (k : Nat) (hk : k < N) (hl : Cond.fieldLink own index ref (T k).2.1 (T k).2.2.1 ∈ lw_all) (hs : (T k).1 = ref) {v : Value} (hv : fs[k]? = some v) (hdg : decode cc pc = .ok (.getfield index, 3))
    (kk : W p l e R s m args below meth c H locs cells slots Q (F0 m (pc + 3) ls (v :: rest))) : W p l e R s m args below meth c H locs cells slots Q (F0 m pc ls (.ref a :: rest)) := by
  obtain ⟨q0, hq⟩ := List.getElem?_of_mem hm
  exact va_get S.1 S.2.1 S.2.2.2.2 hin S.2.2.2.1 hW.1 hW.2.1 q0 hq hc k hk (S.2.2.2.2 _ hl) (fun x h => by rw [← hs]; exact h) hv hdg kk
theorem gtI (S : CallFix p m c cc nL s args lw_all own) (hW : pM G ws s H locs) (hm : (a, .inr (ci, fs)) ∈ ws) (hc : vwCl[ci]? = some (Cn, T, N)) (hin : ∀ w ∈ u_ws Cn T N, w ∈ lw_all) (k : Nat) (hk : k < N) (hl : Cond.fieldLink own index ref (T k).2.1 (T k).2.2.1 ∈ lw_all) (hs : Cond.sameField ref (T k).1 (T k).2.1 (T k).2.2.1 ∈ lw_all) {v : Value} (hv : fs[k]? = some v) (hdg : decode cc pc = .ok (.getfield index, 3))
    (kk : W p l e R s m args below meth c H locs cells slots Q (F0 m (pc + 3) ls (v :: rest))) : W p l e R s m args below meth c H locs cells slots Q (F0 m pc ls (.ref a :: rest)) := by
  obtain ⟨q0, hq⟩ := List.getElem?_of_mem hm
  exact va_get S.1 S.2.1 S.2.2.2.2 hin S.2.2.2.1 hW.1 hW.2.1 q0 hq hc k hk (S.2.2.2.2 _ hl) (fun x h => u_same (S.2.2.2.2 _ hs) x h) hv hdg kk
theorem gtN {host : String} (S : CallFix p m c cc nL s args lw_all own) (hW : pM G ws s H locs) (hm : (a, .inr (ci, fs)) ∈ ws) (hc : vwCl[ci]? = some (Cn, T, N)) (hin : ∀ w ∈ u_ws Cn T N, w ∈ lw_all) (k : Nat) (hk : k < N) (hl : Cond.fieldLinkNest own index ref (T k).2.1 (T k).2.2.1 host ∈ pNst) (hs : (T k).1 = ref) {v : Value} (hv : fs[k]? = some v) (hdg : decode cc pc = .ok (.getfield index, 3))
    (kk : W p l e R s m args below meth c H locs cells slots Q (F0 m (pc + 3) ls (v :: rest))) : W p l e R s m args below meth c H locs cells slots Q (F0 m pc ls (.ref a :: rest)) := by
  obtain ⟨q0, hq⟩ := List.getElem?_of_mem hm
  exact va_getN S.1 S.2.1 S.2.2.2.2 hin S.2.2.2.1 hW.1 hW.2.1 q0 hq hc k hk (va_Nw.use rfl (hW.2.2.2.2.2.1 _ hl)) (fun x h => by rw [← hs]; exact h) hv hdg kk
/-- a field is written -/
theorem pt (S : CallFix p m c cc nL s args lw_all own) (hW : pM G ws s H locs) (q0 : Nat) (he : ws[q0]? = some (a, .inr (ci, fs))) (hc : vwCl[ci]? = some (Cn, T, N)) (hin : ∀ w ∈ u_ws Cn T N, w ∈ lw_all) (ty0 : Nat → FieldType) (hty : ∀ k, k < N → parseFieldDescriptor (T k).2.2.1 = some (ty0 k)) (hnm : ∀ a, a < N → ∀ b, b < N → a ≠ b → (T a).2.1 ≠ (T b).2.1) (k : Nat) (hk : k < N) (hl : Cond.fieldLink own index ref (T k).2.1 (T k).2.2.1 ∈ lw_all) (hs : (T k).1 = ref) (hfin : (T k).2.2.2 = false) {v : Value} (hn : narrow (ty0 k) v = v) (hfit : fits (ty0 k) v = true) (hlen : k < fs.length) (hdg : decode cc pc = .ok (.putfield index, 3))
    (kk : ∀ (H1 : Heap) (locs1 : List Loc), pM G (ws.set q0 (a, .inr (ci, fs.set k v))) s H1 locs1 → W p l e R s m args below meth c H1 locs1 cells slots Q (F0 m (pc + 3) ls rest)) : W p l e R s m args below meth c H locs cells slots Q (F0 m pc ls (v :: .ref a :: rest)) :=
  va_put S.1 S.2.1 S.2.2.2.2 hin ty0 hty hnm S.2.2.2.1 hW.1 hW.2.1 hW.2.2.1 hW.2.2.2.1 q0 he hc k hk (S.2.2.2.2 _ hl) (fun x h => by rw [← hs]; exact h) hfin (hty k hk) hn hfit hlen hdg (fun H1 locs1 h1 h2 h3 => kk H1 locs1 ⟨hW.1, h1, h2, h3, hW.2.2.2.2⟩)
theorem ptN {host : String} (S : CallFix p m c cc nL s args lw_all own) (hW : pM G ws s H locs) (q0 : Nat) (he : ws[q0]? = some (a, .inr (ci, fs))) (hc : vwCl[ci]? = some (Cn, T, N)) (hin : ∀ w ∈ u_ws Cn T N, w ∈ lw_all) (ty0 : Nat → FieldType) (hty : ∀ k, k < N → parseFieldDescriptor (T k).2.2.1 = some (ty0 k)) (hnm : ∀ a, a < N → ∀ b, b < N → a ≠ b → (T a).2.1 ≠ (T b).2.1) (k : Nat) (hk : k < N) (hl : Cond.fieldLinkNest own index ref (T k).2.1 (T k).2.2.1 host ∈ pNst) (hs : (T k).1 = ref) (hfin : (T k).2.2.2 = false) {v : Value} (hn : narrow (ty0 k) v = v) (hfit : fits (ty0 k) v = true) (hlen : k < fs.length) (hdg : decode cc pc = .ok (.putfield index, 3))
    (kk : ∀ (H1 : Heap) (locs1 : List Loc), pM G (ws.set q0 (a, .inr (ci, fs.set k v))) s H1 locs1 → W p l e R s m args below meth c H1 locs1 cells slots Q (F0 m (pc + 3) ls rest)) : W p l e R s m args below meth c H locs cells slots Q (F0 m pc ls (v :: .ref a :: rest)) :=
  va_putN S.1 S.2.1 S.2.2.2.2 hin ty0 hty hnm S.2.2.2.1 hW.1 hW.2.1 hW.2.2.1 hW.2.2.2.1 q0 he hc k hk (va_Nw.use rfl (hW.2.2.2.2.2.1 _ hl)) (fun x h => by rw [← hs]; exact h) hfin (hty k hk) hn hfit hlen hdg (fun H1 locs1 h1 h2 h3 => kk H1 locs1 ⟨hW.1, h1, h2, h3, hW.2.2.2.2⟩)
/-- a final field, in its class's constructor -/
theorem ptF (S : CallFix p m c cc nL s args lw_all own) (hi : meth.name = "<init>") (hW : pM G ws s H locs) (q0 : Nat) (he : ws[q0]? = some (a, .inr (ci, fs))) (hc : vwCl[ci]? = some (Cn, T, N)) (hin : ∀ w ∈ u_ws Cn T N, w ∈ lw_all) (ty0 : Nat → FieldType) (hty : ∀ k, k < N → parseFieldDescriptor (T k).2.2.1 = some (ty0 k)) (hnm : ∀ a, a < N → ∀ b, b < N → a ≠ b → (T a).2.1 ≠ (T b).2.1) (k : Nat) (hk : k < N) (hl : Cond.fieldLink own index ref (T k).2.1 (T k).2.2.1 ∈ lw_all) (hs : (T k).1 = ref) (hfin : (T k).2.2.2 = true) (hdecl : (T k).1 = own) {v : Value} (hn : narrow (ty0 k) v = v) (hfit : fits (ty0 k) v = true) (hlen : k < fs.length) (hdg : decode cc pc = .ok (.putfield index, 3))
    (kk : ∀ (H1 : Heap) (locs1 : List Loc), pM G (ws.set q0 (a, .inr (ci, fs.set k v))) s H1 locs1 → W p l e R s m args below meth c H1 locs1 cells slots Q (F0 m (pc + 3) ls rest)) : W p l e R s m args below meth c H locs cells slots Q (F0 m pc ls (v :: .ref a :: rest)) :=
  va_putF S.1 S.2.1 S.2.2.2.2 hin ty0 hty hnm S.2.2.2.1 hW.1 hW.2.1 hW.2.2.1 hW.2.2.2.1 q0 he hc k hk (S.2.2.2.2 _ hl) (fun x h => by rw [← hs]; exact h) hfin hi hdecl (hty k hk) hn hfit hlen hdg (fun H1 locs1 h1 h2 h3 => kk H1 locs1 ⟨hW.1, h1, h2, h3, hW.2.2.2.2⟩)
/-- new -/
theorem nw (S : CallFix p m c cc nL s args lw_all own) (hW : pM G ws s H locs) (hc : vwCl[ci]? = some (Cn, T, N)) (hin : ∀ w ∈ u_ws Cn T N, w ∈ lw_all) (ty : Nat → FieldType) (hty : ∀ k, k < N → parseFieldDescriptor (T k).2.2.1 = some (ty k)) (hcl : Cond.classLink own index Cn ∈ lw_all) (hinst : Cond.instantiable Cn N ∈ lw_all) (hini : Cond.initialized Cn ∈ lw_all) {fs : List Value} (hfs : ∀ j, j < N → defaultValue (ty j) = vp_V fs j) (hcells : cells + 1 ≤ R.cells) (hslots : slots + N ≤ R.slots) (hdg : decode cc pc = .ok (.new index, 3))
    (kk : ∀ (q : Nat) (H1 : Heap), pM G (ws ++ [(q, .inr (ci, fs))]) s H1 locs → W p l e R s m args below meth c H1 locs (cells + 1) (slots + N) Q (F0 m (pc + 3) ls (.ref q :: rest))) : W p l e R s m args below meth c H locs cells slots Q (F0 m pc ls rest) :=
  va_new S.1 S.2.1 S.2.2.2.2 hin ty hty S.2.2.2.1 (S.2.2.2.2 _ hcl) (S.2.2.2.2 _ hinst) (S.2.2.2.2 _ hini) hW.1 hW.2.1 hW.2.2.1 hW.2.2.2.1 hW.new hc hfs hcells hslots hdg (fun q H1 h1 h2 h3 => kk q H1 ⟨hW.1, h1, h2, h3, hW.2.2.2.2⟩)
end LAY


