/-! ===== OWN ROWS, first part: the classes, what is carried through every call, contracts that return ===== -/
set_option maxRecDepth 100000
abbrev G4 : Type := ClassId × ClassId × ClassId × ClassId
abbrev nc : List vw_C := [(RX1, TX1, 9), (RX2, TX2, 6), (RX3, TX3, 3), (RX4, TX4, 1), (RX5, TX5, 1), (RX6, TX6, 4), (RX7, TX7, 2), (RX8, TX8, 15)]
abbrev tyl (g : G4) : List (ClassId × FieldType) := [(g.1, .int), (g.2.1, .long), (g.2.2.1, .array .int), (g.2.2.2, .object "NoisyCodes$Way")]
abbrev zk_find : MethodName := ⟨"NoisyCodes$Way", "find", "(LNoisyCodes$Field;[IILNoisyCodes$Poly;)V"⟩
def zk_kind : Cond → Bool
  | .fieldLinkNest .. => true
  | .methodLinkNest .. => true
  | .castable .. => true
  | .declares .. => true
  | _ => false
/-- a static that is laid and holds a reference or null -/
def zk_st (C n d : String) (A : Nat → Prop) (U : State) (H : Heap) : Prop := ∃ (c : ClassId) (k : Class) (i : Nat) (f : Field) (a : Nat) (cell : Cell) (v : Value), U.vm.findClass C = some c ∧ U.fieldFound? C n d = some (c, k, i, f) ∧ f.isStatic = true ∧ k.statics = some a ∧ H[a]? = some cell ∧ cell.vm.isStatics = true ∧ cell.cls = c ∧ f.slot < cell.slots.size ∧ k.staticTypes[f.slot]? = some f.type ∧ cell.slots[f.slot]? = some v ∧ (v = .null ∨ ∃ r, v = .ref r) ∧ ¬ A a
theorem zk_st.go {C n d : String} {A B : Nat → Prop} {u U : State} {H H' : Heap} (hvm : u.vm.Alike U.vm) (h : zk_st C n d A u H) (hq : ∀ a : Nat, a < H.size → ¬ A a → H'[a]? = H[a]?) (hAB : ∀ q, B q → A q) : zk_st C n d B U H' := by
  obtain ⟨c, k, i, f, a, cell, v, h1, h2, h3, h4, h5, h6, h7, h8, h9, h10, h11, h12⟩ := h
  obtain ⟨k', hi', he⟩ := State.fieldFound?_setVm hvm h2
  exact ⟨c, k', i, f, a, cell, v, by rw [hvm.findClass]; exact h1, hi', h3, by rw [he]; exact h4, by rw [hq a (Array.getElem?_eq_some_iff.mp h5).1 h12]; exact h5, h6, h7, h8, by rw [he]; exact h9, h10, h11, fun z => h12 (hAB a z)⟩
theorem zk_st.of {args : Array Value} {s : State} {C n d : String} {A : Nat → Prop} (hl : (Cond.laysStatic C n d).before args s = true) (h : (Cond.isRef (.static C n d)).before args s = true) (hA : ∀ a : Nat, a < s.heap.size → ¬ A a) : zk_st C n d A s s.heap := by
  obtain ⟨c, k, i, f, a, cell, h1, h2, h3, h4, h5, h6, h7, h8, h9⟩ := Cond.laysStatic_spec hl
  have hv : cell.slots[f.slot]? = some (cell.slots[f.slot]'h8) := Array.getElem?_eq_getElem h8
  refine ⟨c, k, i, f, a, cell, _, h1, h2, h3, h4, h5, h6, h7, h8, h9, hv, ?_, hA a (Array.getElem?_eq_some_iff.mp h5).1⟩
  have e : (Term.static C n d).eval args s none [] s = some (cell.slots[f.slot]'h8) := by
    simp [Term.eval, State.fieldNamed?, h2, h3, h4, h5, h6, hv]
  simp only [Cond.before, Cond.holds, Cond.value, e] at h
  cases hz : cell.slots[f.slot]'h8 with
  | null => exact Or.inl rfl
  | ref r => exact Or.inr ⟨r, rfl⟩
  | _ => rw [hz] at h; simp at h
theorem zk_st.lays {args : Array Value} {s : State} {C n d : String} {A : Nat → Prop} (h : zk_st C n d A s s.heap) : (Cond.laysStatic C n d).before args s = true := by
  obtain ⟨c, k, i, f, a, cell, v, h1, h2, h3, h4, h5, h6, h7, h8, h9, h10, h11, h12⟩ := h
  exact Cond.laysStatic_of h1 h2 h3 h4 h5 h6 h7 h8 h9
theorem zk_st.ref {args : Array Value} {s : State} {C n d : String} {A : Nat → Prop} (h : zk_st C n d A s s.heap) : (Cond.isRef (.static C n d)).before args s = true := by
  obtain ⟨c, k, i, f, a, cell, v, h1, h2, h3, h4, h5, h6, h7, h8, h9, h10, h11, h12⟩ := h
  have e : (Term.static C n d).eval args s none [] s = some v := by
    simp [Term.eval, State.fieldNamed?, h2, h3, h4, h5, h6, h10]
  simp only [Cond.before, Cond.holds, Cond.value, e]
  rcases h11 with rfl | ⟨r, rfl⟩ <;> rfl
def zk_AA (U : State) : Prop := (Cond.arrayOver (.array .int)).before #[] U = true
theorem zk_AA.moved {u U : State} (hvm : u.vm.Alike U.vm) (h : zk_AA u) : zk_AA U := by
  obtain ⟨comp, c, k, h1, h2, h3, h4, h5⟩ := arrayOverA_spec h
  obtain ⟨k', hk', he⟩ := hvm.2.2 _ _ h3
  have hi : (U.vm.classes.findIdx? fun (x : Class) => match x.kind with | .array component _ => component == comp | _ => false) = some c := by
    rw [hvm.findIdx?_eq _ (fun _ => rfl)]; exact h2
  have hkind : k'.kind = .array comp (.array .int) := by rw [he]; exact h4
  have f1 : U.vm.findClass (FieldType.array .int).toString = some comp := by rw [hvm.findClass]; exact h1
  have f2 : U.vm.findClass ("[" ++ (FieldType.array .int).toString) = some c := by rw [hvm.findClass]; exact h5
  unfold zk_AA Cond.before Cond.holds
  simp only [Cond.value]
  rw [f1, Option.bind_some]
  refine (congrArg (fun o : Option Nat => (o.bind (fun c => (U.vm.classes[c]?).map fun (k : Class) => match k.kind with | .array _ ty => decide (ty = FieldType.array .int) && decide (U.vm.findClass ("[" ++ (FieldType.array .int).toString) = some c) | _ => false) == some true)) hi).trans ?_
  simp [hk', hkind, f2]
/-- what is carried through every call: nest links, casts, the ways' entries, string constants, Throwable's two statics -/
def zk_N (A : Nat → Prop) (U : State) (H : Heap) : Prop :=
  (∀ w ∈ lw_tbl, zk_kind w = true → va_Nw w U) ∧ (va_Fw RX5 zk_find yX5_find U ∧ va_Fw RX6 zk_find yX6_find U ∧ va_Fw RX7 zk_find yX7_find U) ∧
  (∀ own k tx, Cond.stringRef own k tx ∈ lw_tbl → ∃ a, vk_R own k tx a U) ∧ va_AO "NoisyCodes$Way" U ∧ zk_AA U ∧
  zk_st "java/lang/Throwable" "UNASSIGNED_STACK" "[Ljava/lang/StackTraceElement;" A U H ∧ zk_st "java/lang/Throwable" "SUPPRESSED_SENTINEL" "Ljava/util/List;" A U H
theorem zk_N.go {A B : Nat → Prop} {U U' : State} {H H' : Heap} (hW : U.WarmedH U'.vm) (h : zk_N A U H) (hq : ∀ a : Nat, a < H.size → ¬ A a → H'[a]? = H[a]?) (hAB : ∀ q, B q → A q) : zk_N B U' H' := by
  obtain ⟨h1, ⟨h2, h3, h4⟩, h5, h6, h7, h8, h9⟩ := h
  have hx : zk_find.cls ≠ "java/lang/invoke/MethodHandle" ∧ zk_find.cls ≠ "java/lang/invoke/VarHandle" := by decide
  refine ⟨fun w hw hk => ?_, ⟨va_Fw.moved hx hW.alike h2, va_Fw.moved hx hW.alike h3, va_Fw.moved hx hW.alike h4⟩, fun own k tx hm => ?_, va_AO.moved hW.alike h6, zk_AA.moved hW.alike h7, h8.go hW.alike hq hAB, h9.go hW.alike hq hAB⟩
  · have h0 := h1 w hw hk
    cases w <;> first | exact va_Nw.warmF hW h0 | exact va_Nw.warmM hW h0 | exact va_Nw.warmC hW h0 | exact va_Nw.warmD hW h0 | exact absurd hk (fun h => by cases h)
  · obtain ⟨a, ha⟩ := h5 own k tx hm
    exact ⟨a, ha.warm hW⟩
/-- a nest mate's word, at work -/
theorem zk_nw {A : Nat → Prop} {U : State} {H : Heap} (h : zk_N A U H) {w : Cond} (hw : w ∈ lw_tbl) (hk : zk_kind w = true) : va_Nw w U := h.1 w hw hk
/-- an int array's contents by a list of numbers -/
def zk_ia (l : List Nat) : Nat → Int32 := fun j => nI (l.getD j 0)
theorem zk_ia_set (l : List Nat) (i v : Nat) (h : i < l.length) : upd (zk_ia l) i (nI v) = zk_ia (l.set i v) := by
  funext j
  simp only [upd, zk_ia]
  by_cases e : j = i
  · subst e; simp [List.getD_eq_getElem?_getD, h]
  · rw [if_neg e]; simp [List.getD_eq_getElem?_getD, List.getElem?_set_ne (Ne.symm e)]
/-- a contract's start -/
def zk_pre (D : va_G) (g : G4) (As : List Value) (w : va_W) (sz : Nat) : Array Value → State → Prop := va_Pc As (fun U => U.heap.size = sz ∧ va_P D nc w U.heap ∧ va_K D nc (tyl g) U ∧ va_D (fun _ => True) w ∧ zk_N (va_A w sz) U U.heap)
/-- a contract's end, where it returns -/
def zk_Q (D : va_G) (A : Nat → Prop) (Qx : Option Value → va_W → Prop) : Array Value → State → Outcome → State → Prop := fun _ st oc t => (∃ v w1, oc = .returned v ∧ Qx v w1 ∧ va_P D nc w1 t.heap ∧ va_D A w1) ∧ va_F A st t
/-- A CONTRACT: called with As in the world w, the method returns v in a world w1, as Qx says -/
def zk_M (l : Launch) (y : MethodName) (ws : List Cond) (rm : Room) (D : va_G) (g : G4) (As : List Value) (w : va_W) (Qx : Option Value → va_W → Prop) : Prop := ∀ sz : Nat, Met l y ws rm (zk_pre D g As w sz) (zk_Q D (va_A w sz) Qx) rm.cells rm.slots (va_A w sz)
/-- one answer, one world -/
abbrev zk_D (v : Option Value) (w : va_W) : Option Value → va_W → Prop := fun v' w' => v' = v ∧ w' = w
/-- a room: k frames below, c cells, n slots -/
abbrev zk_R (k c n : Nat) : Room := { frames := k, cells := c, slots := n, locals := 60 * k }
theorem zk_blind {D : va_G} {g : G4} {As : List Value} {w : va_W} {sz : Nat} : FrameBlind (zk_pre D g As w sz) := by
  intro a U gf mk h
  obtain ⟨h0, h1, hP, hK, hD, hN⟩ := h
  exact ⟨h0, h1, hP, va_K.moved (u := U) (U := U.calling gf mk a) (Vm.Alike.refl U.vm) hK, hD, hN.go (U := U) (U' := U.calling gf mk a) (State.WarmedH.refl U) (fun _ _ _ => rfl) (fun _ h => h)⟩
/-- what a method's walk stands on -/
def zk_C (p : Program) (s : State) (m : MethodId) (c : Code) (args : Array Value) (cc : ByteArray) (nL : Nat) (own : String) (D : va_G) (g : G4) (A : Nat → Prop) : Prop :=
  CallFix p m c cc nL s args lw_all own ∧ va_K D nc (tyl g) s ∧ (∀ q, s.heap.size ≤ q → A q) ∧ zk_N A s s.heap
/-- the world at a place of the walk -/
def zk_Z (D : va_G) (A : Nat → Prop) (s : State) (H : Heap) (locs : List Loc) (w : va_W) : Prop := va_P D nc w H ∧ va_D A w ∧ va_S A s.heap H locs
theorem zk_Z.sub {D : va_G} {A : Nat → Prop} {s : State} {H : Heap} {locs : List Loc} {w w' : va_W} (h : zk_Z D A s H locs w) (is : List Nat) (hn : va_nd is = true) (hs : is.map (fun i => w[i]?) = w'.map some) : zk_Z D A s H locs w' := by
  refine ⟨h.1.sub is ?_, h.2.1.sub is hn hs, h.2.2⟩
  have h2 : (is.map (fun i => w[i]?)).filterMap id = (w'.map some).filterMap id := by rw [hs]
  simpa [List.filterMap_map] using h2
section
variable {l : Launch}
theorem zk_ofW {y : MethodName} {cc : ByteArray} {maxL : Nat} {ret : Option FieldType} {rm : Room} {D : va_G} {g : G4} {As : List Value} {w : va_W} {Qx : Option Value → va_W → Prop} (hy : plainName y.cls = true) (hL : (lg_sl As).length ≤ maxL)
    (body : ∀ (p : Program) (e : Env) (s : State) (m : MethodId) (below : List Frame) (meth : Method) (c : Code) (A : Nat → Prop), zk_C p s m c As.toArray cc maxL y.cls D g A → meth.sig.returnType = ret → meth.locks = false → meth.name = y.name → zk_Z D A s s.heap [] w → ∀ ls : Array Slot, lv_has ls maxL (lv_args 0 As) → W p l e rm s m As.toArray below meth c s.heap [] 0 0 (MQ below (zk_Q D A Qx) As.toArray s rm.cells rm.slots A) (F0 m 0 ls [])) :
    zk_M l y (ws_ y cc maxL ret) rm D g As w Qx := by
  intro sz
  refine Met.ofW (cc := cc) (maxL := maxL) (ret := ret) hy rfl ?_
  intro p e s m args below meth c s₁ B hml hv
  obtain ⟨rfl, hsz, hP, hK, hD0, hN⟩ := hv
  have hts := atoms_spec (ws := ws_ y cc maxL ret) B.pre
  have hts : ∀ w ∈ lw_all, w.before As.toArray s = true := fun w h => hts w (List.mem_cons_of_mem _ h)
  have hown : s.vm.findClass y.cls = some m.cls := findClass_of_methodNamed B.named
  subst hsz
  have hl := lv_entry As (n := maxL) hL
  rw [lg_entry_eq]
  exact body p e s m below meth c (va_A w s.heap.size) ⟨⟨B.exec, B.bytes, hml, hown, hts⟩, hK, fun q h => Or.inr h, hN⟩ B.returns B.notSynchronized (name_of_methodNamed B.named B.method).1 ⟨hP, hD0.self, va_S.rf⟩ _ hl
end
section
variable {p : Program} {l : Launch} {e : Env} {R : Room} {s : State} {m : MethodId} {args : Array Value} {below : List Frame} {meth : Method} {c : Code} {H : Heap} {locs : List Loc} {cells slots : Nat} {Q : State → Prop}
variable {cc : ByteArray} {pc : Nat} {ls : Array Slot} {rest : List Value} {D : va_G} {g : G4} {A : Nat → Prop} {own : String} {nL : Nat} {w : va_W} {Qx : Option Value → va_W → Prop} {mc ms : Nat}
/-! ends -/
theorem zk_iret (C : zk_C p s m c args cc nL own D g A) (hr : meth.sig.returnType = some .int) (hlocks : meth.locks = false) (Z : zk_Z D A s H locs w) {v : Int32} (hq : Qx (some (.int v)) w) (hc : cells ≤ mc) (hs : slots ≤ ms) (hdg : decode cc pc = .ok (.ireturn, 1)) : W p l e R s m args below meth c H locs cells slots (MQ below (zk_Q D A Qx) args s mc ms A) (F0 m pc ls [.int v]) :=
  W.widen hc hs (W.iret C.1.1 C.1.2.1 hr (fun t ht _ => ⟨⟨_, w, rfl, hq, by rw [ht]; exact Z.1, Z.2.1⟩, Z.2.2.F ht⟩) Z.2.2.2.2 hdg hlocks)
theorem zk_zret (C : zk_C p s m c args cc nL own D g A) (hr : meth.sig.returnType = some .boolean) (hlocks : meth.locks = false) (Z : zk_Z D A s H locs w) {v : Int32} (hn : narrow .boolean (.int v) = .int v) (hq : Qx (some (.int v)) w) (hc : cells ≤ mc) (hs : slots ≤ ms) (hdg : decode cc pc = .ok (.ireturn, 1)) : W p l e R s m args below meth c H locs cells slots (MQ below (zk_Q D A Qx) args s mc ms A) (F0 m pc ls [.int v]) :=
  W.widen hc hs (W.zret C.1.1 C.1.2.1 hr hn (fun t ht _ => ⟨⟨_, w, rfl, hq, by rw [ht]; exact Z.1, Z.2.1⟩, Z.2.2.F ht⟩) Z.2.2.2.2 hdg hlocks)
theorem zk_vret (C : zk_C p s m c args cc nL own D g A) (hr : meth.sig.returnType = none) (hlocks : meth.locks = false) (Z : zk_Z D A s H locs w) (hq : Qx none w) (hc : cells ≤ mc) (hs : slots ≤ ms) (hdg : decode cc pc = .ok (.return_, 1)) : W p l e R s m args below meth c H locs cells slots (MQ below (zk_Q D A Qx) args s mc ms A) (F0 m pc ls []) :=
  W.widen hc hs (W.vret C.1.1 C.1.2.1 hr (fun t ht _ => ⟨⟨_, w, rfl, hq, by rw [ht]; exact Z.1, Z.2.1⟩, Z.2.2.F ht⟩) Z.2.2.2.2 hdg hlocks)
theorem zk_aret (C : zk_C p s m c args cc nL own D g A) {n : String} (hr : meth.sig.returnType = some (.object n)) (hlocks : meth.locks = false) (Z : zk_Z D A s H locs w) {a : Nat} (hq : Qx (some (.ref a)) w) (hc : cells ≤ mc) (hs : slots ≤ ms) (hdg : decode cc pc = .ok (.areturn, 1)) : W p l e R s m args below meth c H locs cells slots (MQ below (zk_Q D A Qx) args s mc ms A) (F0 m pc ls [.ref a]) :=
  W.widen hc hs (W.aret C.1.1 C.1.2.1 hr (Or.inl ⟨n, rfl⟩) (Or.inr ⟨a, rfl⟩) (fun t ht _ => ⟨⟨_, w, rfl, hq, by rw [ht]; exact Z.1, Z.2.1⟩, Z.2.2.F ht⟩) Z.2.2.2.2 hdg hlocks)
/-! arrays of ints, by lists -/
theorem zk_iald (C : zk_C p s m c args cc nL own D g A) (Z : zk_Z D A s H locs w) (q0 : Nat) {a n : Nat} {L : List Nat} (ha : w[q0]? = some (a, .inl (g.1, n, .inl (zk_ia L)))) {i : Nat} (hn : n < 2 ^ 31) (hi : i < n) (hdg : decode cc pc = .ok (.iaload, 1))
    (kk : W p l e R s m args below meth c H locs cells slots Q (F0 m (pc + 1) ls (.int (nI (L.getD i 0)) :: rest))) : W p l e R s m args below meth c H locs cells slots Q (F0 m pc ls (.int (nI i) :: .ref a :: rest)) := by
  refine va_iald C.1.1 C.1.2.1 C.2.1 Z.1 q0 0 ha rfl (vp_in_nI hi hn) hdg ?_
  rw [nI_clamp (by omega)]
  exact kk
theorem zk_iast (C : zk_C p s m c args cc nL own D g A) (Z : zk_Z D A s H locs w) (q0 : Nat) {a n : Nat} {L : List Nat} (ha : w[q0]? = some (a, .inl (g.1, n, .inl (zk_ia L)))) {i v : Nat} (hn : n < 2 ^ 31) (hi : i < n) (hL : L.length = n) (hdg : decode cc pc = .ok (.iastore, 1))
    (kk : ∀ (H : Heap) (locs : List Loc), zk_Z D A s H locs (w.set q0 (a, .inl (g.1, n, .inl (zk_ia (L.set i v))))) → W p l e R s m args below meth c H locs cells slots Q (F0 m (pc + 1) ls rest)) : W p l e R s m args below meth c H locs cells slots Q (F0 m pc ls (.int (nI v) :: .int (nI i) :: .ref a :: rest)) := by
  refine va_iast C.1.1 C.1.2.1 C.2.1 Z.1 Z.2.1 Z.2.2 q0 0 ha rfl (vp_in_nI hi hn) hdg (fun H1 locs1 hP hD hS => ?_)
  rw [nI_clamp (by omega), zk_ia_set L i v (by omega)] at hP hD
  exact kk H1 locs1 ⟨hP, hD, hS⟩
theorem zk_alen (C : zk_C p s m c args cc nL own D g A) (Z : zk_Z D A s H locs w) (q0 : Nat) {a n : Nat} {f : Nat → Int32} (ha : w[q0]? = some (a, .inl (g.1, n, .inl f))) (hdg : decode cc pc = .ok (.arraylength, 1))
    (kk : W p l e R s m args below meth c H locs cells slots Q (F0 m (pc + 1) ls (.int (nI n) :: rest))) : W p l e R s m args below meth c H locs cells slots Q (F0 m pc ls (.ref a :: rest)) :=
  va_alen C.1.1 C.1.2.1 C.2.1 Z.1 q0 0 ha rfl rfl hdg kk
/-! fields -/
theorem zk_get (C : zk_C p s m c args cc nL own D g A) (Z : zk_Z D A s H locs w) {ref Cn : String} {T : u_T} {N ci index a : Nat} (hin : ∀ x ∈ u_ws Cn T N, x ∈ lw_all) (q0 : Nat) {fs : List Value} (he : w[q0]? = some (a, .inr (ci, fs))) (hc : nc[ci]? = some (Cn, T, N)) (k : Nat) (hk : k < N) (hlink : Cond.fieldLink own index ref (T k).2.1 (T k).2.2.1 ∈ lw_all) (hsame : (T k).1 = ref) {v : Value} (hv : fs[k]? = some v) (hdg : decode cc pc = .ok (.getfield index, 3))
    (kk : W p l e R s m args below meth c H locs cells slots Q (F0 m (pc + 3) ls (v :: rest))) : W p l e R s m args below meth c H locs cells slots Q (F0 m pc ls (.ref a :: rest)) :=
  va_get C.1.1 C.1.2.1 C.1.2.2.2.2 hin C.1.2.2.2.1 C.2.1 Z.1 q0 he hc k hk (C.1.2.2.2.2 _ hlink) (fun _ h => by rw [← hsame]; exact h) hv hdg kk
theorem zk_getN (C : zk_C p s m c args cc nL own D g A) (Z : zk_Z D A s H locs w) {ref Cn host : String} {T : u_T} {N ci index a : Nat} (hin : ∀ x ∈ u_ws Cn T N, x ∈ lw_all) (q0 : Nat) {fs : List Value} (he : w[q0]? = some (a, .inr (ci, fs))) (hc : nc[ci]? = some (Cn, T, N)) (k : Nat) (hk : k < N) (hlink : Cond.fieldLinkNest own index ref (T k).2.1 (T k).2.2.1 host ∈ lw_tbl) (hsame : (T k).1 = ref) {v : Value} (hv : fs[k]? = some v) (hdg : decode cc pc = .ok (.getfield index, 3))
    (kk : W p l e R s m args below meth c H locs cells slots Q (F0 m (pc + 3) ls (v :: rest))) : W p l e R s m args below meth c H locs cells slots Q (F0 m pc ls (.ref a :: rest)) :=
  va_getN C.1.1 C.1.2.1 C.1.2.2.2.2 hin C.1.2.2.2.1 C.2.1 Z.1 q0 he hc k hk (va_Nw.use rfl (zk_nw C.2.2.2 hlink rfl)) (fun _ h => by rw [← hsame]; exact h) hv hdg kk
theorem zk_put (C : zk_C p s m c args cc nL own D g A) (Z : zk_Z D A s H locs w) {ref Cn : String} {T : u_T} {N ci index a : Nat} (hin : ∀ x ∈ u_ws Cn T N, x ∈ lw_all) (ty0 : Nat → FieldType) (hty : ∀ k, k < N → parseFieldDescriptor (T k).2.2.1 = some (ty0 k)) (hnm : ∀ a, a < N → ∀ b, b < N → a ≠ b → (T a).2.1 ≠ (T b).2.1) (q0 : Nat) {fs : List Value} (he : w[q0]? = some (a, .inr (ci, fs))) (hc : nc[ci]? = some (Cn, T, N)) (k : Nat) (hk : k < N) (hlink : Cond.fieldLink own index ref (T k).2.1 (T k).2.2.1 ∈ lw_all) (hsame : (T k).1 = ref) (hfin : (T k).2.2.2 = false) {v : Value} (hn : narrow (ty0 k) v = v) (hfit : fits (ty0 k) v = true) (hl : k < fs.length) (hdg : decode cc pc = .ok (.putfield index, 3))
    (kk : ∀ (H : Heap) (locs : List Loc), zk_Z D A s H locs (w.set q0 (a, .inr (ci, fs.set k v))) → W p l e R s m args below meth c H locs cells slots Q (F0 m (pc + 3) ls rest)) : W p l e R s m args below meth c H locs cells slots Q (F0 m pc ls (v :: .ref a :: rest)) :=
  va_put C.1.1 C.1.2.1 C.1.2.2.2.2 hin ty0 hty hnm C.1.2.2.2.1 C.2.1 Z.1 Z.2.1 Z.2.2 q0 he hc k hk (C.1.2.2.2.2 _ hlink) (fun _ h => by rw [← hsame]; exact h) hfin (hty k hk) hn hfit hl hdg (fun H1 locs1 hP hD hS => kk H1 locs1 ⟨hP, hD, hS⟩)
theorem zk_putF (C : zk_C p s m c args cc nL own D g A) (Z : zk_Z D A s H locs w) {ref Cn : String} {T : u_T} {N ci index a : Nat} (hin : ∀ x ∈ u_ws Cn T N, x ∈ lw_all) (ty0 : Nat → FieldType) (hty : ∀ k, k < N → parseFieldDescriptor (T k).2.2.1 = some (ty0 k)) (hnm : ∀ a, a < N → ∀ b, b < N → a ≠ b → (T a).2.1 ≠ (T b).2.1) (q0 : Nat) {fs : List Value} (he : w[q0]? = some (a, .inr (ci, fs))) (hc : nc[ci]? = some (Cn, T, N)) (k : Nat) (hk : k < N) (hlink : Cond.fieldLink own index ref (T k).2.1 (T k).2.2.1 ∈ lw_all) (hsame : (T k).1 = ref) (hfin : (T k).2.2.2 = true) (hin2 : meth.name = "<init>") (hdecl : (T k).1 = own) {v : Value} (hn : narrow (ty0 k) v = v) (hfit : fits (ty0 k) v = true) (hl : k < fs.length) (hdg : decode cc pc = .ok (.putfield index, 3))
    (kk : ∀ (H : Heap) (locs : List Loc), zk_Z D A s H locs (w.set q0 (a, .inr (ci, fs.set k v))) → W p l e R s m args below meth c H locs cells slots Q (F0 m (pc + 3) ls rest)) : W p l e R s m args below meth c H locs cells slots Q (F0 m pc ls (v :: .ref a :: rest)) :=
  va_putF C.1.1 C.1.2.1 C.1.2.2.2.2 hin ty0 hty hnm C.1.2.2.2.1 C.2.1 Z.1 Z.2.1 Z.2.2 q0 he hc k hk (C.1.2.2.2.2 _ hlink) (fun _ h => by rw [← hsame]; exact h) hfin hin2 hdecl (hty k hk) hn hfit hl hdg (fun H1 locs1 hP hD hS => kk H1 locs1 ⟨hP, hD, hS⟩)
/-! calls -/
/-- the callee's start, its cells cut out of ours -/
theorem zk_prS (C : zk_C p s m c args cc nL own D g A) (Z : zk_Z D A s H locs w) {wc : va_W} {As : List Value} (isC : List Nat) (hnC : va_nd isC = true) (hC : isC.map (fun i => w[i]?) = wc.map some) : PreS s H (zk_pre D g As wc H.size) As := by
  have Zc := Z.sub isC hnC hC
  refine ⟨zk_blind, fun U hU hW => ⟨rfl, by rw [hU], by rw [hU]; exact Zc.1, va_K.moved hW.alike C.2.1, Zc.2.1.weaken (fun _ _ _ _ => trivial), ?_⟩⟩
  rw [hU]
  exact C.2.2.2.go hW (fun a h1 h2 => Z.2.2.2.1 a h1 h2) (va_free Z.2.1 Z.2.2 C.2.2.1 isC hC)
theorem zk_prV (C : zk_C p s m c args cc nL own D g A) (Z : zk_Z D A s H locs w) {wc : va_W} {As : List Value} (isC : List Nat) (hnC : va_nd isC = true) (hC : isC.map (fun i => w[i]?) = wc.map some) {b q0 ci : Nat} {q : vw_C} {fs : List Value} (hc : nc[ci]? = some q) (he : w[q0]? = some (b, .inr (ci, fs))) : PreV s H q.1 b (zk_pre D g (.ref b :: As) wc H.size) As := by
  have h := zk_prS C Z (As := .ref b :: As) isC hnC hC
  exact ⟨h.1, va_recv C.2.1 Z.1 hc he, h.2⟩
/-- behind the call: the rest as it was, the callee's cells as it left them -/
theorem zk_go (C : zk_C p s m c args cc nL own D g A) (Z : zk_Z D A s H locs w) {wc wr : va_W} {As : Array Value} {st0 : List Value} (isC isR : List Nat) (hC : isC.map (fun i => w[i]?) = wc.map some) (hR : isR.map (fun i => w[i]?) = wr.map some) (hn : va_nd isR = true) (hdis : ∀ i ∈ isR, i ∉ isC)
    (hr : va_Run p l e R s m args below meth c H locs cells slots mc ms (F0 m pc ls st0) rest (zk_Q D (va_A wc H.size) Qx As) (va_A wc H.size))
    {cells' slots' : Nat} (e1 : cells + mc = cells') (e2 : slots + ms = slots') (kk : ∀ (v : Option Value) (w1 : va_W) (H : Heap) (locs : List Loc), Qx v w1 → zk_Z D A s H locs (wr ++ w1) → W p l e R s m args below meth c H locs cells' slots' Q (F0 m (pc + 3) ls (v.toList ++ rest))) : W p l e R s m args below meth c H locs cells slots Q (F0 m pc ls st0) := by
  subst e1; subst e2
  intro T hT X
  obtain ⟨v, st₀, t, T', L, h0, X', hL, e1, e2, ⟨⟨v', w1, hv, hq, hP1, hD1⟩, hz, hk⟩, st⟩ := hr T hT X
  cases hv
  rw [h0] at hz hk
  have hF := va_free Z.2.1 Z.2.2 C.2.2.1 isC hC
  obtain ⟨hP, hD⟩ := va_join (H1 := T'.heap) Z.1 Z.2.1 isC isR hC hR hn hdis (fun q h1 h2 => by rw [e1]; exact hk q h1 h2) hF (by rw [e1]; exact hP1) hD1
  obtain ⟨t2, a1, b1⟩ := kk v w1 T'.heap (locs ++ L) hq ⟨hP, hD, Nat.le_trans Z.2.2.1 (by rw [e1]; exact hz), fun q h1 h2 => by rw [e1, hk q (Nat.lt_of_lt_of_le h1 Z.2.2.1) (fun z => h2 (hF q z))]; exact Z.2.2.2.1 q h1 h2, fun q hq => by
      rcases List.mem_append.mp hq with h | h
      · exact Z.2.2.2.2 q h
      · exact hF _ (hL q h)⟩ T' rfl X'
  exact ⟨t2, st t2 a1, b1⟩
theorem zk_callV (C : zk_C p s m c args cc nL own D g A) (Z : zk_Z D A s H locs w) {y : MethodName} {bytes : ByteArray} {maxL n index : Nat} {ret : Option FieldType} {rm : Room} {As : List Value} {b : Nat} {wc wr : va_W} {st0 : List Value}
    (hM : zk_M l y (ws_ y bytes maxL ret) rm D g (.ref b :: As) wc Qx) (isC isR : List Nat) (hC : isC.map (fun i => w[i]?) = wc.map some) (hR : isR.map (fun i => w[i]?) = wr.map some) (hnC : va_nd isC = true) (hn : va_nd isR = true) (hdis : ∀ i ∈ isR, i ∉ isC)
    (q0 ci : Nat) {q : vw_C} {fs : List Value} (hc : nc[ci]? = some q) (he : w[q0]? = some (b, .inr (ci, fs))) (hyq : y.cls = q.1) (h1 : Cond.methodLink own index y ∈ lw_all) (h2 : Cond.instanceMethod y ∈ lw_all) (h3 : Cond.selects y.cls y y ∈ lw_all) (h4 : Cond.initialized y.cls ∈ lw_all) (h5 : Cond.code y bytes maxL ret ∈ lw_all)
    (hd : y.cls ≠ "java/lang/invoke/MethodHandle" ∧ y.cls ≠ "java/lang/invoke/VarHandle" ∧ (parseMethodDescriptor y.desc).map (fun d => d.parameters.length) = some n) (hAn : As.length = n) (hfr : rm.frames + 1 ≤ R.frames) (hlo : 8 + (maxL + 11) + rm.locals ≤ R.locals) (hce : cells + rm.cells ≤ R.cells) (hsl : slots + rm.slots ≤ R.slots)
    {cells' slots' : Nat} (e1 : cells + rm.cells = cells') (e2 : slots + rm.slots = slots') (hsz : ls.size = nL) (hst : st0 = As.reverse ++ .ref b :: rest) (hroom : (rest.map fun v => v.category).sum ≤ 8) (hdg : decode cc pc = .ok (.invokevirtual index, 3))
    (kk : ∀ (v : Option Value) (w1 : va_W) (H : Heap) (locs : List Loc), Qx v w1 → zk_Z D A s H locs (wr ++ w1) → W p l e R s m args below meth c H locs cells' slots' Q (F0 m (pc + 3) ls (v.toList ++ rest))) : W p l e R s m args below meth c H locs cells slots Q (F0 m pc ls st0) := by
  have hp := zk_prV C Z (As := As) isC hnC hC hc he
  rw [← hyq] at hp
  exact zk_go C Z isC isR hC hR hn hdis (va_runV C.1 (hM H.size) (cwV n C.1.2.2.2.2 (lw_V h1 h2 h3 h4 h5) rfl rfl rfl ⟨rfl, hd.1, hd.2.1, hd.2.2⟩ ⟨hfr, hlo⟩) hp rfl hAn hsz hst (lv_room hroom) hdg ⟨hce, hsl⟩) e1 e2 kk
theorem zk_callS (C : zk_C p s m c args cc nL own D g A) (Z : zk_Z D A s H locs w) {y : MethodName} {bytes : ByteArray} {maxL n index : Nat} {ret : Option FieldType} {rm : Room} {As : List Value} {wc wr : va_W} {st0 : List Value}
    (hM : zk_M l y (ws_ y bytes maxL ret) rm D g As wc Qx) (isC isR : List Nat) (hC : isC.map (fun i => w[i]?) = wc.map some) (hR : isR.map (fun i => w[i]?) = wr.map some) (hnC : va_nd isC = true) (hn : va_nd isR = true) (hdis : ∀ i ∈ isR, i ∉ isC)
    (h1 : Cond.methodLink own index y ∈ lw_all) (h2 : Cond.static y ∈ lw_all) (h4 : Cond.initialized y.cls ∈ lw_all) (h5 : Cond.code y bytes maxL ret ∈ lw_all)
    (hd : y.cls ≠ "java/lang/invoke/MethodHandle" ∧ y.cls ≠ "java/lang/invoke/VarHandle" ∧ (parseMethodDescriptor y.desc).map (fun d => d.parameters.length) = some n) (hAn : As.length = n) (hfr : rm.frames + 1 ≤ R.frames) (hlo : 8 + (maxL + 11) + rm.locals ≤ R.locals) (hce : cells + rm.cells ≤ R.cells) (hsl : slots + rm.slots ≤ R.slots)
    {cells' slots' : Nat} (e1 : cells + rm.cells = cells') (e2 : slots + rm.slots = slots') (hsz : ls.size = nL) (hst : st0 = As.reverse ++ rest) (hroom : (rest.map fun v => v.category).sum ≤ 8) (hdg : decode cc pc = .ok (.invokestatic index, 3))
    (kk : ∀ (v : Option Value) (w1 : va_W) (H : Heap) (locs : List Loc), Qx v w1 → zk_Z D A s H locs (wr ++ w1) → W p l e R s m args below meth c H locs cells' slots' Q (F0 m (pc + 3) ls (v.toList ++ rest))) : W p l e R s m args below meth c H locs cells slots Q (F0 m pc ls st0) :=
  zk_go C Z isC isR hC hR hn hdis (va_runS C.1 (hM H.size) (va_cwS n C.1.2.2.2.2 (lw_S h1 h2 h4 h5) rfl rfl rfl hd ⟨hfr, hlo⟩) (zk_prS C Z isC hnC hC) rfl hAn hsz hst (lv_room hroom) hdg ⟨hce, hsl⟩) e1 e2 kk
theorem zk_callSN (C : zk_C p s m c args cc nL own D g A) (Z : zk_Z D A s H locs w) {y : MethodName} {host : String} {bytes : ByteArray} {maxL n index : Nat} {ret : Option FieldType} {rm : Room} {As : List Value} {wc wr : va_W} {st0 : List Value}
    (hM : zk_M l y (ws_ y bytes maxL ret) rm D g As wc Qx) (isC isR : List Nat) (hC : isC.map (fun i => w[i]?) = wc.map some) (hR : isR.map (fun i => w[i]?) = wr.map some) (hnC : va_nd isC = true) (hn : va_nd isR = true) (hdis : ∀ i ∈ isR, i ∉ isC)
    (h1 : Cond.methodLinkNest own index y host ∈ lw_tbl) (h2 : Cond.static y ∈ lw_all) (h4 : Cond.initialized y.cls ∈ lw_all) (h5 : Cond.code y bytes maxL ret ∈ lw_all)
    (hd : y.cls ≠ "java/lang/invoke/MethodHandle" ∧ y.cls ≠ "java/lang/invoke/VarHandle" ∧ (parseMethodDescriptor y.desc).map (fun d => d.parameters.length) = some n) (hAn : As.length = n) (hfr : rm.frames + 1 ≤ R.frames) (hlo : 8 + (maxL + 11) + rm.locals ≤ R.locals) (hce : cells + rm.cells ≤ R.cells) (hsl : slots + rm.slots ≤ R.slots)
    {cells' slots' : Nat} (e1 : cells + rm.cells = cells') (e2 : slots + rm.slots = slots') (hsz : ls.size = nL) (hst : st0 = As.reverse ++ rest) (hroom : (rest.map fun v => v.category).sum ≤ 8) (hdg : decode cc pc = .ok (.invokestatic index, 3))
    (kk : ∀ (v : Option Value) (w1 : va_W) (H : Heap) (locs : List Loc), Qx v w1 → zk_Z D A s H locs (wr ++ w1) → W p l e R s m args below meth c H locs cells' slots' Q (F0 m (pc + 3) ls (v.toList ++ rest))) : W p l e R s m args below meth c H locs cells slots Q (F0 m pc ls st0) :=
  zk_go C Z isC isR hC hR hn hdis (va_runSN C.1 (hM H.size) ⟨va_cnB n C.1.2.2.2.2 (lw_meth h5) rfl rfl rfl (zk_nw C.2.2.2 h1 rfl) (C.1.2.2.2.2 _ h4) hd ⟨hfr, hlo⟩, C.1.2.2.2.2 _ h2, trivial⟩ (zk_prS C Z isC hnC hC) rfl hAn hsz hst (lv_room hroom) hdg ⟨hce, hsl⟩) e1 e2 kk
theorem zk_callIN (C : zk_C p s m c args cc nL own D g A) (Z : zk_Z D A s H locs w) {y : MethodName} {host : String} {bytes : ByteArray} {maxL n index : Nat} {rm : Room} {As : List Value} {b : Nat} {wc wr : va_W} {st0 : List Value}
    (hM : zk_M l y (ws_ y bytes maxL none) rm D g (.ref b :: As) wc Qx) (isC isR : List Nat) (hC : isC.map (fun i => w[i]?) = wc.map some) (hR : isR.map (fun i => w[i]?) = wr.map some) (hnC : va_nd isC = true) (hn : va_nd isR = true) (hdis : ∀ i ∈ isR, i ∉ isC)
    (hy1 : y.name = "<init>") (h1 : Cond.methodLinkNest own index y host ∈ lw_tbl) (h2 : Cond.instanceMethod y ∈ lw_all) (h4 : Cond.initialized y.cls ∈ lw_all) (h5 : Cond.code y bytes maxL none ∈ lw_all)
    (hd : y.cls ≠ "java/lang/invoke/MethodHandle" ∧ y.cls ≠ "java/lang/invoke/VarHandle" ∧ (parseMethodDescriptor y.desc).map (fun d => d.parameters.length) = some n) (hAn : As.length = n) (hfr : rm.frames + 1 ≤ R.frames) (hlo : 8 + (maxL + 11) + rm.locals ≤ R.locals) (hce : cells + rm.cells ≤ R.cells) (hsl : slots + rm.slots ≤ R.slots)
    {cells' slots' : Nat} (e1 : cells + rm.cells = cells') (e2 : slots + rm.slots = slots') (hsz : ls.size = nL) (hst : st0 = As.reverse ++ .ref b :: rest) (hroom : (rest.map fun v => v.category).sum ≤ 8) (hdg : decode cc pc = .ok (.invokespecial index, 3))
    (kk : ∀ (v : Option Value) (w1 : va_W) (H : Heap) (locs : List Loc), Qx v w1 → zk_Z D A s H locs (wr ++ w1) → W p l e R s m args below meth c H locs cells' slots' Q (F0 m (pc + 3) ls (v.toList ++ rest))) : W p l e R s m args below meth c H locs cells slots Q (F0 m pc ls st0) :=
  zk_go C Z isC isR hC hR hn hdis (va_runIN C.1 (hM H.size) ⟨va_cnB n C.1.2.2.2.2 (lw_meth h5) rfl rfl rfl (zk_nw C.2.2.2 h1 rfl) (C.1.2.2.2.2 _ h4) hd ⟨hfr, hlo⟩, hy1, C.1.2.2.2.2 _ h2⟩ (zk_prS C Z isC hnC hC) rfl hAn hsz hst (lv_room hroom) hdg ⟨hce, hsl⟩) e1 e2 kk
theorem zk_callI (C : zk_C p s m c args cc nL own D g A) (Z : zk_Z D A s H locs w) {y : MethodName} {bytes : ByteArray} {maxL n index : Nat} {rm : Room} {As : List Value} {b : Nat} {wc wr : va_W} {st0 : List Value}
    (hM : zk_M l y (ws_ y bytes maxL none) rm D g (.ref b :: As) wc Qx) (isC isR : List Nat) (hC : isC.map (fun i => w[i]?) = wc.map some) (hR : isR.map (fun i => w[i]?) = wr.map some) (hnC : va_nd isC = true) (hn : va_nd isR = true) (hdis : ∀ i ∈ isR, i ∉ isC)
    (hy1 : y.name = "<init>") (h1 : Cond.methodLink own index y ∈ lw_all) (h2 : Cond.instanceMethod y ∈ lw_all) (h4 : Cond.initialized y.cls ∈ lw_all) (h5 : Cond.code y bytes maxL none ∈ lw_all)
    (hd : y.cls ≠ "java/lang/invoke/MethodHandle" ∧ y.cls ≠ "java/lang/invoke/VarHandle" ∧ (parseMethodDescriptor y.desc).map (fun d => d.parameters.length) = some n) (hAn : As.length = n) (hfr : rm.frames + 1 ≤ R.frames) (hlo : 8 + (maxL + 11) + rm.locals ≤ R.locals) (hce : cells + rm.cells ≤ R.cells) (hsl : slots + rm.slots ≤ R.slots)
    {cells' slots' : Nat} (e1 : cells + rm.cells = cells') (e2 : slots + rm.slots = slots') (hsz : ls.size = nL) (hst : st0 = As.reverse ++ .ref b :: rest) (hroom : (rest.map fun v => v.category).sum ≤ 8) (hdg : decode cc pc = .ok (.invokespecial index, 3))
    (kk : ∀ (v : Option Value) (w1 : va_W) (H : Heap) (locs : List Loc), Qx v w1 → zk_Z D A s H locs (wr ++ w1) → W p l e R s m args below meth c H locs cells' slots' Q (F0 m (pc + 3) ls (v.toList ++ rest))) : W p l e R s m args below meth c H locs cells slots Q (F0 m pc ls st0) :=
  zk_go C Z isC isR hC hR hn hdis (va_runI C.1 (hM H.size) (cwI n C.1.2.2.2.2 (lw_meth h5) rfl rfl rfl (C.1.2.2.2.2 _ h4) (C.1.2.2.2.2 _ h1) (C.1.2.2.2.2 _ h2) hy1 hd ⟨hfr, hlo⟩) (zk_prS C Z isC hnC hC) rfl hAn hsz hst (lv_room hroom) hdg ⟨hce, hsl⟩) e1 e2 kk
end
