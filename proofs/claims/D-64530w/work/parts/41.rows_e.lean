/-! ===== OWN ROWS, fifth part: contracts of methods that throw; calls of them; leaving; catching, the catch type cold or warm ===== -/
set_option maxRecDepth 100000
section
variable {l : Launch}
theorem zk_ofWT {y : MethodName} {cc : ByteArray} {maxL : Nat} {ret : Option FieldType} {rm : Room} {D : va_G} {g : G4} {As : List Value} {w : va_W} {X : String} {Qx : va_W → Prop} (hy : plainName y.cls = true) (hL : (lg_sl As).length ≤ maxL)
    (body : ∀ (p : Program) (e : Env) (s : State) (m : MethodId) (below : List Frame) (meth : Method) (c : Code) (A : Nat → Prop), zk_C p s m c As.toArray cc maxL y.cls D g A → meth.locks = false → c.exceptionTable.isEmpty = true → zk_Z D A s s.heap [] w → ∀ ls : Array Slot, lv_has ls maxL (lv_args 0 As) → W p l e rm s m As.toArray below meth c s.heap [] 0 0 (zk_MQT below (zk_QT D A X Qx) As.toArray s rm.cells rm.slots A) (F0 m 0 ls [])) :
    zk_MT l y (ws_ y cc maxL ret) rm D g As w X Qx := by
  intro sz
  refine MetFree.of_bodyS (code := cc) (maxLocals := maxL) (ret := ret) hy ?_ ?_
  · intro args s m h hn
    obtain ⟨meth, c, h1, h2, h3, h4, h5, h6, -, -⟩ := Cond.code_spec hn (atoms_spec (ws := ws_ y cc maxL ret) h _ List.mem_cons_self)
    exact ⟨meth, c, h1, h2, h3, h4, h5, h6⟩
  · intro p e s m args below meth c s₁ B hml hv _
    obtain ⟨rfl, hsz, hP, hK, hD0, hN⟩ := hv
    have hts0 := atoms_spec (ws := ws_ y cc maxL ret) B.pre
    have hts : ∀ w ∈ lw_all, w.before As.toArray s = true := fun w h => hts0 w (List.mem_cons_of_mem _ h)
    have hown : s.vm.findClass y.cls = some m.cls := findClass_of_methodNamed B.named
    have X0 := Stand.of_body B
    have hno : c.exceptionTable.isEmpty = true := by
      obtain ⟨meth', c', k1, k2, -, -, -, -, k7, -⟩ := Cond.code_spec B.named (hts0 _ List.mem_cons_self)
      cases k1.symm.trans B.method
      cases k2.symm.trans X0.code
      exact k7
    subst hsz
    have hl := lv_entry As (n := maxL) hL
    have hh0 : s₁.heap = s.heap := by rw [B.state]; rfl
    have hW := body p e s m below meth c (va_A w s.heap.size) ⟨⟨B.exec, B.bytes, hml, hown, hts⟩, hK, fun q h => Or.inr h, hN⟩ B.notSynchronized hno ⟨hP, hD0.self, va_S.rf⟩ _ hl
    obtain ⟨t, a1, o, b1, b2, b3⟩ := hW s₁ hh0 X0
    rw [lg_entry_eq]
    exact ⟨t, o, a1, b1, b2, b3⟩
end
section
variable {p : Program} {l : Launch} {e : Env} {R : Room} {s : State} {m : MethodId} {args : Array Value} {below : List Frame} {meth : Method} {c : Code} {H : Heap} {locs : List Loc} {cells slots : Nat} {Q : State → Prop}
/-- the callee throws: the walk stands with the note over the caller's frame -/
theorem zk_intoT {y : MethodName} {ws : List Cond} {rm : Room} {Pc : Array Value → State → Prop} {Qc : Array Value → State → Outcome → State → Prop} {mc ms : Nat} {free : Addr → Prop} {bytes : ByteArray} {maxL : Nat} {ret : Option FieldType} {len Wd : Nat}
    (hM : MetFree l y (headSpec ws rm) Pc (fun _ _ _ _ _ => True) (fun a st o t => Qc a st o t ∧ ∃ L, FramedT st o t L mc ms ∧ ∀ q ∈ L, free q.base)) (hblind : FrameBlind Pc) (hrc : rm.cells = mc) (hrs : rm.slots = ms)
    (hframes : rm.frames + 1 ≤ R.frames) (hlocals : Wd + (maxL + 11) + rm.locals ≤ R.locals)
    (hws : ∀ w ∈ ws, ∀ a' U, s.WarmedH U.vm → w.before a' U = true) (hcode : Cond.code y bytes maxL ret ∈ ws) (hinit : ∀ a' U, s.WarmedH U.vm → (Cond.initialized y.cls).before a' U = true)
    {U : State} {g : JFrame} {ig : Instr} {mk : MethodId} {a : Array Value} (X : Stand p l e R s m args below meth c U locs cells slots) (hg : g.method = m) (hsize : g.locals.size = c.maxLocals) (hdg : decode c.code g.pc = .ok (ig, len))
    (hW : 2 * g.monitorRoom + (g.stack.map fun v => v.category).sum ≤ Wd) (hn : U.methodNamed? y = some mk) (hf : cells + mc ≤ R.cells ∧ slots + ms ≤ R.slots) (hp : Pc a U) :
    ∃ (x : Addr) (st₀ t T' : State) (L : List Loc), st₀.heap = U.heap ∧ Stand p l e R s m args below meth c T' (locs ++ L) (cells + mc) (slots + ms) ∧ (∀ q ∈ L, free q.base) ∧ T'.heap = t.heap ∧ T'.vm = t.vm ∧ Qc a st₀ (.threw x) t ∧
      Steps p.tables e below (doInvoke e (U.setTop g) [] mk a).1 ((T'.setTop g).pushFrame (.throwing x)) := by
  obtain ⟨methY, cY, hmY, hcY, -, hlY, -, -, -, -⟩ := Cond.code_spec hn (hws _ hcode a U X.warmed)
  obtain ⟨kY, hkY, -⟩ := className_of_methodNamed hn
  have hinitY : kY.init = .initialized := Cond.initialized_spec (findClass_of_methodNamed hn) hkY (hinit a U X.warmed)
  have h : At U g.method c below := by rw [hg]; exact X.here
  have happ : (headSpec ws rm).appliesLoose y e.platform (U.calling g mk a) = true :=
    Spec.appliesLoose_calling (g := g) h hdg hn hkY hinitY
      (X.room_calling (g := g) (R' := (headSpec ws rm).room) hsize hmY hcY hframes (by rw [hlY]; show _ + _ + rm.locals ≤ _; omega) (by show cells + rm.cells ≤ _; omega) (by show slots + rm.slots ≤ _; omega)) (atoms_intro fun w hw => hws w hw _ _ X.warmed)
  obtain ⟨mid, hmid⟩ := h.above
  have hfr : (U.setTop g).frames = (.java g :: mid) ++ below := by rw [State.frames_setTop' g h.top, hmid]; rfl
  obtain ⟨o, s₂, hsteps, -, hend, hq⟩ := Steps.callFree hM p X.admits X.cas X.clock (acts := []) hfr happ (hblind _ _ _ _ hp) trivial
  have hq' : Qc a (U.calling g mk a) o s₂ ∧ ∃ L, FramedT (U.calling g mk a) o s₂ L mc ms ∧ ∀ q ∈ L, free q.base := hq
  obtain ⟨hq1, L, ⟨⟨x, rfl⟩, hWm, hsame⟩, hL⟩ := hq'
  rw [State.frames_setTop' g h.top, X.tail] at hend
  obtain ⟨T', X', hW', hB, ht⟩ := X.outOfThrown hg hend hWm hsame
  refine ⟨x, U.calling g mk a, s₂, T', L, rfl, X', hL, ?_, ?_, hq1, ?_⟩
  · rw [ht]; rfl
  · rw [ht]; rfl
  · rw [← ht]; exact hsteps
def zk_RunT (p : Program) (l : Launch) (e : Env) (R : Room) (s : State) (m : MethodId) (args : Array Value) (below : List Frame) (meth : Method) (c : Code) (H : Heap) (locs : List Loc) (cells slots mc ms : Nat) (g : JFrame) (rest : List Value) (Qa : State → Outcome → State → Prop) (free : Addr → Prop) : Prop :=
  ∀ T : State, T.heap = H → Stand p l e R s m args below meth c T locs cells slots → ∃ (x : Addr) (st₀ t T' : State) (L : List Loc), st₀.heap = H ∧ Stand p l e R s m args below meth c T' (locs ++ L) (cells + mc) (slots + ms) ∧ (∀ q ∈ L, free q.base) ∧ T'.heap = t.heap ∧ T'.vm = t.vm ∧ Qa st₀ (.threw x) t ∧
    Steps p.tables e below (T.setTop g) ((T'.setTop { g with stack := rest }).pushFrame (.throwing x))
variable {y : MethodName} {bytes cc : ByteArray} {maxL nL mc ms n index : Nat} {ret : Option FieldType} {ws : List Cond} {rm : Room} {Pc : Array Value → State → Prop} {Qc : Array Value → State → Outcome → State → Prop} {free : Addr → Prop} {Ts : List Cond} {own C : String} {b : Addr} {As rest : List Value} {g : JFrame}
theorem zk_runVT (S : CallFix p m c cc nL s args Ts own) (hM : MetFree l y (headSpec ws rm) Pc (fun _ _ _ _ _ => True) (fun a st o t => Qc a st o t ∧ ∃ L, FramedT st o t L mc ms ∧ ∀ q ∈ L, free q.base)) (cw : CallW R s args own C index y bytes maxL ret ws rm mc ms n) (hp : PreV s H C b Pc As)
    (hg : g.method = m) (hn : As.length = n) (hsize : g.locals.size = nL) (hstack : g.stack = As.reverse ++ .ref b :: rest) (hW : 2 * g.monitorRoom + (rest.map fun v => v.category).sum ≤ 8) (hdg : decode cc g.pc = .ok (.invokevirtual index, 3)) (hf : cells + mc ≤ R.cells ∧ slots + ms ≤ R.slots) :
    zk_RunT p l e R s m args below meth c H locs cells slots mc ms g rest (Qc (Value.ref b :: As).toArray) (free) := by
  obtain ⟨⟨hrc, hrs, hfr, hlo, hws, hcw, hcode, hini, hy, hlen, hl⟩, hinst, hsel⟩ := cw
  obtain ⟨hx, hb, hml, ho, -⟩ := S
  obtain ⟨hbl, ⟨cellB, hcB, hoB, hclB⟩, hPc⟩ := hp
  intro T hT X
  obtain ⟨mk, methM, hnamed, hmethM, hstM, habM⟩ := Cond.instanceMethod_spec hinst
  obtain ⟨methM', cM, hmethM', -, -, -, -, -, -, hsigM⟩ := Cond.code_spec hnamed hcode
  cases hmethM.symm.trans hmethM'
  obtain ⟨c2, r2, m2, q1, q2, q3, q4, kP, hkP, hkPi⟩ := Cond.selects_spec hsel
  cases hclB.symm.trans q1
  cases (State.methodFound?_of_named hnamed hy).symm.trans q2
  cases hnamed.symm.trans q3
  have hselP : selectMethod e.platform s.vm cellB.cls mk = .method mk := by rw [Launch.admits_selectMethod X.admits]; exact q4
  obtain ⟨vm₁, X₁, hstep₁⟩ := X.invokevirtual hx ho hl hnamed hmethM hstM hkP hkPi hy (a := b) (cell := cellB) (by rw [hT]; exact hcB)
    (fun z h => by rw [h] at hoB; cases hoB) hselP hmethM habM hkP hkPi (g := g) hg (argsL := As) (rest := rest) (hn.trans (hlen _ hsigM)) hstack (by rw [hb]; exact hdg)
  obtain ⟨x, st₀, t, T', L, h1, X', hL, e1, e2, hq, hsteps⟩ := zk_intoT (ig := .invokevirtual index) (len := 3) (Wd := 8) (U := T.setVm vm₁) (g := { g with stack := rest }) (a := (Value.ref b :: As).toArray) hM hbl hrc hrs hfr hlo hws hcw (fun a' U hW => word_at hW (Or.inl (by first | rfl | simp [Cond.onTables, Cond.keeps, Cond.steady])) hini) X₁ hg (hsize.trans hml.symm) (by rw [hb]; exact hdg) hW (X₁.named hnamed) hf (hPc (T.setVm vm₁) hT X₁.warmed)
  exact ⟨x, st₀, t, T', L, h1.trans hT, X', hL, e1, e2, hq, hstep₁ _ fun acts => by rw [doInvoke_state]; exact hsteps⟩
theorem zk_runST (S : CallFix p m c cc nL s args Ts own) (hM : MetFree l y (headSpec ws rm) Pc (fun _ _ _ _ _ => True) (fun a st o t => Qc a st o t ∧ ∃ L, FramedT st o t L mc ms ∧ ∀ q ∈ L, free q.base)) (cw : CallB R s args own index y bytes maxL ret ws rm mc ms n ∧ (Cond.static y).before args s = true) (hp : PreS s H Pc As)
    (hg : g.method = m) (hn : As.length = n) (hsize : g.locals.size = nL) (hstack : g.stack = As.reverse ++ rest) (hW : 2 * g.monitorRoom + (rest.map fun v => v.category).sum ≤ 8) (hdg : decode cc g.pc = .ok (.invokestatic index, 3)) (hf : cells + mc ≤ R.cells ∧ slots + ms ≤ R.slots) :
    zk_RunT p l e R s m args below meth c H locs cells slots mc ms g rest (Qc As.toArray) (free) := by
  obtain ⟨⟨hrc, hrs, hfr, hlo, hws, hcw, hcode, hini, hy, hlen, hl⟩, hstat⟩ := cw
  obtain ⟨hx, hb, hml, ho, -⟩ := S
  intro T hT X
  obtain ⟨mk, hnamed⟩ := Cond.code_named hcode
  obtain ⟨methM, cM, hmethM, -, -, -, -, -, -, hsigM⟩ := Cond.code_spec hnamed hcode
  have hstatic : methM.isStatic = true := Cond.static_spec hnamed hmethM hstat
  obtain ⟨kP, hkP, -⟩ := className_of_methodNamed hnamed
  have hinitP : kP.init = .initialized := Cond.initialized_spec (findClass_of_methodNamed hnamed) hkP hini
  obtain ⟨vm₁, X₁, hstep₁⟩ := X.invokestatic hx ho hl hnamed hmethM hstatic hkP hinitP hy (g := g) hg (argsL := As) (rest := rest) (hn.trans (hlen _ hsigM)) hstack (by rw [hb]; exact hdg)
  obtain ⟨x, st₀, t, T', L, h1, X', hL, e1, e2, hq, hsteps⟩ := zk_intoT (ig := .invokestatic index) (len := 3) (Wd := 8) (U := T.setVm vm₁) (g := { g with stack := rest }) (a := As.toArray) hM hp.1 hrc hrs hfr hlo hws hcw (fun a' U hW => word_at hW (Or.inl (by first | rfl | simp [Cond.onTables, Cond.keeps, Cond.steady])) hini) X₁ hg (hsize.trans hml.symm) (by rw [hb]; exact hdg) hW (X₁.named hnamed) hf (hp.2 (T.setVm vm₁) hT X₁.warmed)
  exact ⟨x, st₀, t, T', L, h1.trans hT, X', hL, e1, e2, hq, hstep₁ _ fun acts => by rw [doInvoke_state]; exact hsteps⟩
end
section
variable {p : Program} {l : Launch} {e : Env} {R : Room} {s : State} {m : MethodId} {args : Array Value} {below : List Frame} {meth : Method} {c : Code} {H : Heap} {locs : List Loc} {cells slots : Nat} {Q : State → Prop}
variable {cc : ByteArray} {pc : Nat} {ls : Array Slot} {rest : List Value} {D : va_G} {g : G4} {A : Nat → Prop} {own : String} {nL : Nat} {w : va_W} {X : String} {Qx : va_W → Prop} {mc ms : Nat}
/-- what is known behind a call that threw: the object x of class X over the frame -/
def zk_thrown (p : Program) (l : Launch) (e : Env) (R : Room) (s : State) (m : MethodId) (args : Array Value) (below : List Frame) (meth : Method) (c : Code) (cells slots : Nat) (Q : State → Prop) (D : va_G) (A : Nat → Prop) (X : String) (w : va_W) (gf : JFrame) : Prop :=
  ∀ (x : Addr) (cell : Cell) (T : State) (locs : List Loc), zk_Z D A s T.heap locs w → T.heap[x]? = some cell → T.vm.findClass X = some cell.cls → cell.vm = .none → Stand p l e R s m args below meth c T locs cells slots → ∃ t, Steps p.tables e below ((T.setTop gf).pushFrame (.throwing x)) t ∧ Q t
theorem zk_goT (C : zk_C p s m c args cc nL own D g A) (Z : zk_Z D A s H locs w) {wc wr : va_W} {As : Array Value} {st0 : List Value} (isC isR : List Nat) (hC : isC.map (fun i => w[i]?) = wc.map some) (hR : isR.map (fun i => w[i]?) = wr.map some) (hn : va_nd isR = true) (hdis : ∀ i ∈ isR, i ∉ isC)
    (hr : zk_RunT p l e R s m args below meth c H locs cells slots mc ms (F0 m pc ls st0) rest (zk_QT D (va_A wc H.size) X Qx As) (va_A wc H.size))
    {cells' slots' : Nat} (e1 : cells + mc = cells') (e2 : slots + ms = slots') (kk : ∀ w1 : va_W, Qx w1 → zk_thrown p l e R s m args below meth c cells' slots' Q D A X (wr ++ w1) (F0 m pc ls rest)) : W p l e R s m args below meth c H locs cells slots Q (F0 m pc ls st0) := by
  subst e1; subst e2
  intro T hT X0
  obtain ⟨x, st₀, t, T', L, h0, X', hL, e1, e2, ⟨⟨x', cell, w1, hv, hcell, hcls, hvm, hq, hP1, hD1⟩, hz, hk⟩, st⟩ := hr T hT X0
  cases hv
  rw [h0] at hz hk
  have hF := va_free Z.2.1 Z.2.2 C.2.2.1 isC hC
  obtain ⟨hP, hD⟩ := va_join (H1 := T'.heap) Z.1 Z.2.1 isC isR hC hR hn hdis (fun q h1 h2 => by rw [e1]; exact hk q h1 h2) hF (by rw [e1]; exact hP1) hD1
  obtain ⟨t2, a1, b1⟩ := kk w1 hq x cell T' (locs ++ L) ⟨hP, hD, Nat.le_trans Z.2.2.1 (by rw [e1]; exact hz), fun q h1 h2 => by rw [e1, hk q (Nat.lt_of_lt_of_le h1 Z.2.2.1) (fun z => h2 (hF q z))]; exact Z.2.2.2.1 q h1 h2, fun q hq => by
      rcases List.mem_append.mp hq with h | h
      · exact Z.2.2.2.2 q h
      · exact hF _ (hL q h)⟩ (by rw [e1]; exact hcell) (by rw [e2]; exact hcls) hvm X'
  exact ⟨t2, st.trans a1, b1⟩
/-- it leaves this method too -/
theorem zk_leave (hlocks : meth.locks = false) (hno : c.exceptionTable.isEmpty = true) (hq : Qx w) (hc : cells ≤ mc) (hs : slots ≤ ms) : zk_thrown p l e R s m args below meth c cells slots (zk_MQT below (zk_QT D A X Qx) args s mc ms A) D A X w (F0 m pc ls rest) := by
  intro x cell T locs Z hcell hcls hvm X0
  obtain ⟨l1, l2, l3, l4, l5⟩ := X0.leaveThrown x (g := F0 m pc ls rest) rfl rfl rfl (fun x hx => by rw [Array.isEmpty_iff] at hno; rw [hno] at hx; cases hx) hlocks
  refine ⟨_, l1, .threw x, l2, l3, ⟨⟨x, cell, w, rfl, hcell, hcls, hvm, hq, Z.1, Z.2.1⟩, Z.2.2.1, Z.2.2.2.1⟩, locs, ⟨⟨x, rfl⟩, l4, l5.mono hc hs⟩, Z.2.2.2.2⟩
theorem zk_callVT (C : zk_C p s m c args cc nL own D g A) (Z : zk_Z D A s H locs w) {y : MethodName} {bytes : ByteArray} {maxL n index : Nat} {ret : Option FieldType} {rm : Room} {As : List Value} {b : Nat} {wc wr : va_W} {st0 : List Value}
    (hM : zk_MT l y (ws_ y bytes maxL ret) rm D g (.ref b :: As) wc X Qx) (isC isR : List Nat) (hC : isC.map (fun i => w[i]?) = wc.map some) (hR : isR.map (fun i => w[i]?) = wr.map some) (hnC : va_nd isC = true) (hn : va_nd isR = true) (hdis : ∀ i ∈ isR, i ∉ isC)
    (q0 ci : Nat) {q : vw_C} {fs : List Value} (hc : nc[ci]? = some q) (he : w[q0]? = some (b, .inr (ci, fs))) (hyq : y.cls = q.1) (h1 : Cond.methodLink own index y ∈ lw_all) (h2 : Cond.instanceMethod y ∈ lw_all) (h3 : Cond.selects y.cls y y ∈ lw_all) (h4 : Cond.initialized y.cls ∈ lw_all) (h5 : Cond.code y bytes maxL ret ∈ lw_all)
    (hd : y.cls ≠ "java/lang/invoke/MethodHandle" ∧ y.cls ≠ "java/lang/invoke/VarHandle" ∧ (parseMethodDescriptor y.desc).map (fun d => d.parameters.length) = some n) (hAn : As.length = n) (hfr : rm.frames + 1 ≤ R.frames) (hlo : 8 + (maxL + 11) + rm.locals ≤ R.locals) (hce : cells + rm.cells ≤ R.cells) (hsl : slots + rm.slots ≤ R.slots)
    {cells' slots' : Nat} (e1 : cells + rm.cells = cells') (e2 : slots + rm.slots = slots') (hsz : ls.size = nL) (hst : st0 = As.reverse ++ .ref b :: rest) (hroom : (rest.map fun v => v.category).sum ≤ 8) (hdg : decode cc pc = .ok (.invokevirtual index, 3))
    (kk : ∀ w1 : va_W, Qx w1 → zk_thrown p l e R s m args below meth c cells' slots' Q D A X (wr ++ w1) (F0 m pc ls rest)) : W p l e R s m args below meth c H locs cells slots Q (F0 m pc ls st0) := by
  have hp := zk_prV C Z (As := As) isC hnC hC hc he
  rw [← hyq] at hp
  exact zk_goT C Z isC isR hC hR hn hdis (zk_runVT C.1 (hM H.size) (cwV n C.1.2.2.2.2 (lw_V h1 h2 h3 h4 h5) rfl rfl rfl ⟨rfl, hd.1, hd.2.1, hd.2.2⟩ ⟨hfr, hlo⟩) hp rfl hAn hsz hst (lv_room hroom) hdg ⟨hce, hsl⟩) e1 e2 kk
theorem zk_callST (C : zk_C p s m c args cc nL own D g A) (Z : zk_Z D A s H locs w) {y : MethodName} {bytes : ByteArray} {maxL n index : Nat} {ret : Option FieldType} {rm : Room} {As : List Value} {wc wr : va_W} {st0 : List Value}
    (hM : zk_MT l y (ws_ y bytes maxL ret) rm D g As wc X Qx) (isC isR : List Nat) (hC : isC.map (fun i => w[i]?) = wc.map some) (hR : isR.map (fun i => w[i]?) = wr.map some) (hnC : va_nd isC = true) (hn : va_nd isR = true) (hdis : ∀ i ∈ isR, i ∉ isC)
    (h1 : Cond.methodLink own index y ∈ lw_all) (h2 : Cond.static y ∈ lw_all) (h4 : Cond.initialized y.cls ∈ lw_all) (h5 : Cond.code y bytes maxL ret ∈ lw_all)
    (hd : y.cls ≠ "java/lang/invoke/MethodHandle" ∧ y.cls ≠ "java/lang/invoke/VarHandle" ∧ (parseMethodDescriptor y.desc).map (fun d => d.parameters.length) = some n) (hAn : As.length = n) (hfr : rm.frames + 1 ≤ R.frames) (hlo : 8 + (maxL + 11) + rm.locals ≤ R.locals) (hce : cells + rm.cells ≤ R.cells) (hsl : slots + rm.slots ≤ R.slots)
    {cells' slots' : Nat} (e1 : cells + rm.cells = cells') (e2 : slots + rm.slots = slots') (hsz : ls.size = nL) (hst : st0 = As.reverse ++ rest) (hroom : (rest.map fun v => v.category).sum ≤ 8) (hdg : decode cc pc = .ok (.invokestatic index, 3))
    (kk : ∀ w1 : va_W, Qx w1 → zk_thrown p l e R s m args below meth c cells' slots' Q D A X (wr ++ w1) (F0 m pc ls rest)) : W p l e R s m args below meth c H locs cells slots Q (F0 m pc ls st0) :=
  zk_goT C Z isC isR hC hR hn hdis (zk_runST C.1 (hM H.size) (va_cwS n C.1.2.2.2.2 (lw_S h1 h2 h4 h5) rfl rfl rfl hd ⟨hfr, hlo⟩) (zk_prS C Z isC hnC hC) rfl hAn hsz hst (lv_room hroom) hdg ⟨hce, hsl⟩) e1 e2 kk
end
/-! catching -/
/-- classes said not castable, carried through the law's own methods -/
abbrev zk_ISE : String := "java/lang/IllegalStateException"
abbrev zk_IAE : String := "java/lang/IllegalArgumentException"
abbrev zk_IOB : String := "java/lang/IndexOutOfBoundsException"
abbrev zk_ARE : String := "java/lang/ArithmeticException"
def zk_ncs : List (String × String) := [(zk_ARE, zk_IAE), (zk_ISE, zk_IAE), (zk_IOB, zk_IAE), (zk_IAE, zk_ARE), (zk_ISE, zk_ARE), (zk_IOB, zk_ARE), (zk_ARE, zk_ISE), (zk_IAE, zk_ISE), (zk_IOB, zk_ISE), (zk_ARE, zk_IOB), (zk_IAE, zk_IOB), (zk_ISE, zk_IOB)]
def zk_NC (U : State) : Prop := ∀ q ∈ zk_ncs, ∃ c t, U.vm.findClass q.1 = some c ∧ U.vm.findClass q.2 = some t ∧ U.vm.assignable c t = false
theorem zk_NC.moved {u U : State} (hvm : u.vm.Alike U.vm) (h : zk_NC u) : zk_NC U := by
  intro q hq
  obtain ⟨c, t, h1, h2, h3⟩ := h q hq
  exact ⟨c, t, by rw [hvm.findClass]; exact h1, by rw [hvm.findClass]; exact h2, by rw [hvm.assignable]; exact h3⟩
section
variable {E : CtlPost} {e : Env} {d : Bool} {acts : List Action} {s : State} {f : JFrame} {a : Addr} {Q : Handler → Pre}
theorem zk_fh {x : ExceptionTableEntry} {t : List ExceptionTableEntry} {c : ClassId} {vm' : Vm} {cell : Cell} (hx : covers x f.pc = true) (h0 : x.catchType ≠ 0)
    (hg : (Jvm.resolveClass f.method.cls x.catchType).Gives e.toSetting s.vm (.ok c) vm') (hsz : vm'.classes.size ≤ s.vm.classes.size) (hcell : s.heap[a]? = some cell) (hobj : ∀ k, cell.vm ≠ .statics k)
    (hk : ∃ k, vm'.classes[cell.cls]? = some k) (hc : ∃ k, vm'.classes[c]? = some k) :
    wp (findHandler.go f a (x :: t)) Q E e d acts s ↔
      if vm'.assignable cell.cls c = true then Q (.found x.handlerPc) d acts (s.setVm vm') else wp (findHandler.go f a t) Q E e d acts (s.setVm vm') := by
  simp only [covers] at hx
  obtain ⟨ha, ht⟩ := hg.op (op := VmOp.resolveClass f.method.cls x.catchType) rfl
  cases hfit : vm'.assignable cell.cls c <;>
    simp [findHandler.go, hx, h0, ha, ht, hsz, VmOp.lands_eq ht hsz, hcell, hobj, hk, hc, hfit, VmOp.dirties, VmOp.acts]
end
/-- the first entry whose class is X: its handler -/
def zk_fst (X : String) : List (Nat × Nat × Nat × Nat) → List String → Option Nat
  | q :: qs, N :: ns => if N = X then some q.2.2.1 else zk_fst X qs ns
  | _, _ => none
theorem zk_srch {l : Launch} {e : Env} {s : State} {f : JFrame} {a : Addr} {cell : Cell} {X own : String} {hpc : Nat} {args : Array Value} (hadm : l.admits e) (hown : s.vm.findClass own = some f.method.cls) (hX : s.vm.findClass X = some cell.cls) (hvm : cell.vm = .none) :
    ∀ (es : List (Nat × Nat × Nat × Nat)) (ns : List String), (∀ q ∈ es, q.1 ≤ f.pc ∧ f.pc < q.2.1 ∧ q.2.2.2 ≠ 0) → (∀ (i : Nat) q N, es[i]? = some q → ns[i]? = some N → (Cond.classLink own q.2.2.2 N).before args s = true) →
    (∀ N ∈ ns, N = X ∨ ∃ t, s.vm.findClass N = some t ∧ s.vm.assignable cell.cls t = false) → zk_fst X es ns = some hpc →
    ∀ (t : List ExceptionTableEntry), t.map (fun h => (h.startPc, h.endPc, h.handlerPc, h.catchType)) = es → ∀ (U : State), s.WarmedH U.vm → U.heap[a]? = some cell →
    ∃ vm', s.WarmedH vm' ∧ ∀ (Q : Handler → Pre) (E : CtlPost) (d : Bool) (acts : List Action), wp (findHandler.go f a t) Q E e d acts U ↔ Q (.found hpc) d acts (U.setVm vm') := by
  intro es
  induction es with
  | nil => intro ns _ _ _ h; cases h
  | cons q es ih =>
    intro ns hcov hlk hnc hf t ht U hW hU
    match ns, hf with
    | N :: ns, hf =>
      match t, ht with
      | x :: t, ht =>
        rw [List.map_cons] at ht
        obtain ⟨hq, ht⟩ := List.cons.inj ht
        obtain ⟨c1, c2, c3⟩ := hcov q List.mem_cons_self
        have hl := hlk 0 q N rfl rfl
        rw [← hq] at c1 c2 c3 hl
        have hpl : e.platform.magicAccessors = ({} : Platform).magicAccessors := by rw [hadm.platform]
        obtain ⟨cN, hcN, hcl⟩ := Cond.classLink_spec hown hl e.platform hpl
        obtain ⟨dk, _, _, kt, hd, _, _, _, _, hkt, _, hopen⟩ := hcl.here
        have hcl₀ := hW.classLinks hcl
        have hW' : s.WarmedH (U.vm.noted f.method.cls x.catchType (.cls cN)) := hW.noted hd hopen (State.rightAt_cls hcl)
        obtain ⟨kc, hkc, -⟩ := Vm.findClass_spec hX
        obtain ⟨ks', hks', -⟩ := hW'.alike.2.2 _ _ hkc
        obtain ⟨kt', hkt', -⟩ := hW'.alike.2.2 _ _ hkt
        have hstep : ∀ (Q : Handler → Pre) (E : CtlPost) (d : Bool) (acts : List Action), wp (findHandler.go f a (x :: t)) Q E e d acts U ↔ _ := fun Q E d acts =>
          zk_fh (t := t) (by simp only [covers, Bool.and_eq_true, decide_eq_true_eq]; exact ⟨c1, c2⟩) c3 (resolveClass_links e.toSetting hcl₀) (by no_record) hU (fun k h => by rw [hvm] at h; cases h) ⟨ks', hks'⟩ ⟨kt', hkt'⟩
        by_cases hN : N = X
        · subst hN
          cases hX.symm.trans hcN
          have hf' : q.2.2.1 = hpc := by
            have := hf
            simp only [zk_fst, if_pos] at this
            exact Option.some.inj this
          refine ⟨_, hW', fun Q E d acts => ?_⟩
          rw [hstep, if_pos (by rw [hW'.alike.assignable]; exact va_asg _ _), ← hf', ← hq]
        · have hf' : zk_fst X es ns = some hpc := by
            have := hf
            simp only [zk_fst, if_neg hN] at this
            exact this
          rcases hnc N List.mem_cons_self with h | ⟨tN, htN, hno⟩
          · exact absurd h hN
          · cases htN.symm.trans hcN
            obtain ⟨vm', hW2, hs⟩ := ih ns (fun q h => hcov q (List.mem_cons_of_mem _ h)) (fun i q N h1 h2 => hlk (i + 1) q N h1 h2) (fun N h => hnc N (List.mem_cons_of_mem _ h)) hf' t ht (U.setVm (U.vm.noted f.method.cls x.catchType (.cls cN))) hW' hU
            refine ⟨vm', hW2, fun Q E d acts => ?_⟩
            rw [hstep, if_neg (by rw [hW'.alike.assignable, hno]; decide), hs]
            rfl
theorem zk_caught {tb : Tables} {e : Env} {s target : State} {g : JFrame} {c : Code} {below : List Frame} {a : Addr} (h : At s g.method c below) {pc : Nat} {vm' : Vm}
    (hfind : ∀ (Q : Handler → Pre) (E : CtlPost) (d : Bool) (acts : List Action), wp (findHandler g a) Q E e d acts ((s.setTop g).pushFrame (.throwing a)) ↔ Q (.found pc) d acts (((s.setTop g).pushFrame (.throwing a)).setVm vm'))
    (hrest : Steps tb e below ((s.setVm vm').setTop { g with pc := pc, stack := [.ref a] }) target) : Steps tb e below ((s.setTop g).pushFrame (.throwing a)) target := by
  obtain ⟨hgo, hw⟩ := h.throwing a
  refine Steps.head hgo hw ?_
  have hst : ∀ r, (stepThrowing e ((s.setTop g).pushFrame (.throwing a)) a (.java g :: r)).Is ((((s.setTop g).pushFrame (.throwing a)).setVm vm').setFrames (.java { g with pc := pc, stack := [.ref a] } :: r)) [] := by
    intro r
    simp only [stepThrowing, searchFrame, vmDo]
    generalize hr : Sem.go _ e false [] ((s.setTop g).pushFrame (.throwing a)) = res
    obtain ⟨as, rfl, ha⟩ := Sem.eq_ok_of hr (a := Handler.found pc) (s' := ((s.setTop g).pushFrame (.throwing a)).setVm vm') (acts' := []) (by simp [hfind _ _ _ _])
    exact ⟨rfl, ha⟩
  rw [stepThread_throwing (frames_entered h.top _), (hst _).1]
  obtain ⟨g₀, hg⟩ := Option.isSome_iff_exists.mp h.top
  obtain ⟨r, hr⟩ := State.topJava?_eq_some.mp hg
  have hr' : (s.setVm vm').frames = .java g₀ :: r := hr
  rw [State.setTop_of_frames _ hr'] at hrest
  have e9 : (((s.setTop g).pushFrame (.throwing a)).setVm vm').setFrames (.java { g with pc := pc, stack := [.ref a] } :: s.frames.tail) = (s.setVm vm').setFrames (.java { g with pc := pc, stack := [.ref a] } :: r) := by
    have e8 : ((s.setTop g).pushFrame (.throwing a)).setFrames (.java { g with pc := pc, stack := [.ref a] } :: s.frames.tail) = s.setFrames (.java { g with pc := pc, stack := [.ref a] } :: r) := by
      rw [State.pushFrame, State.setFrames_setFrames, State.setTop_of_frames _ hr, State.setFrames_setFrames, hr]
      rfl
    exact congrArg (fun z : State => z.setVm vm') e8
  rw [e9]
  exact hrest
section
variable {p : Program} {l : Launch} {e : Env} {R : Room} {s : State} {m : MethodId} {args : Array Value} {below : List Frame} {meth : Method} {c : Code} {H : Heap} {locs : List Loc} {cells slots : Nat} {Q : State → Prop}
variable {cc : ByteArray} {pc : Nat} {ls : Array Slot} {rest : List Value} {D : va_G} {g : G4} {A : Nat → Prop} {own : String} {nL : Nat} {w : va_W} {X : String}
/-- it is caught here -/
theorem zk_catch (C : zk_C p s m c args cc nL own D g A) (N : zk_NC s) {hh : List (Nat × Nat × Nat × Nat)} {ns : List String} {hpc : Nat} (htab : c.exceptionTable.toList.map (fun h => (h.startPc, h.endPc, h.handlerPc, h.catchType)) = hh)
    (hcov : ∀ q ∈ hh, q.1 ≤ pc ∧ pc < q.2.1 ∧ q.2.2.2 ≠ 0) (hlk : ∀ (i : Nat) q N, hh[i]? = some q → ns[i]? = some N → Cond.classLink own q.2.2.2 N ∈ lw_all) (hns : ∀ N ∈ ns, N = X ∨ (X, N) ∈ zk_ncs) (hf : zk_fst X hh ns = some hpc)
    (kk : ∀ (x : Addr) (H : Heap) (locs : List Loc), zk_Z D A s H locs w → W p l e R s m args below meth c H locs cells slots Q (F0 m hpc ls [.ref x])) :
    zk_thrown p l e R s m args below meth c cells slots Q D A X w (F0 m pc ls rest) := by
  intro x cell T locs Z hcell hcls hvm X0
  have hX : s.vm.findClass X = some cell.cls := by rw [← X0.warmed.alike.findClass]; exact hcls
  obtain ⟨vm', hW', hs⟩ := zk_srch (f := F0 m pc ls rest) (a := x) (args := args) X0.admits C.1.2.2.2.1 hX hvm hh ns hcov (fun i q N h1 h2 => C.1.2.2.2.2 _ (hlk i q N h1 h2)) (fun N' hN => by
    rcases hns N' hN with h | h
    · exact Or.inl h
    · obtain ⟨c1, t1, k1, k2, k3⟩ := N _ h
      cases k1.symm.trans hX
      exact Or.inr ⟨t1, k2, k3⟩) hf c.exceptionTable.toList htab ((T.setTop (F0 m pc ls rest)).pushFrame (.throwing x)) X0.warmed hcell
  obtain ⟨t, a1, b1⟩ := kk x T.heap locs Z (T.setVm vm') rfl (X0.noted hW')
  refine ⟨t, zk_caught X0.here (fun Q E d acts => ?_) a1, b1⟩
  rw [W.findHandler_eq (meth := meth) (code := c) X0.method' X0.code]
  exact hs Q E d acts
end
