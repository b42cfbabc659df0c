/-! ===== OWN ROWS, eighth part: worlds in two parts; frames around contracts; the law's methods ===== -/
set_option maxRecDepth 100000
theorem zk_nd_range (k n : Nat) : va_nd ((List.range n).map (· + k)) = true := by
  have key : ∀ (m i : Nat), va_nd ((List.range' i m).map (· + k)) = true := by
    intro m
    induction m with
    | zero => intro i; rfl
    | succ m ih =>
      intro i
      rw [List.range'_succ, List.map_cons]
      show (decide _ && _) = true
      rw [ih, Bool.and_true, decide_eq_true_eq]
      intro h
      obtain ⟨j, hj, e⟩ := List.mem_map.mp h
      have := (List.mem_range'_1.mp hj).1
      omega
  have h := key n 0
  rwa [← List.range_eq_range'] at h
abbrev zk_iR (wr : va_W) : List Nat := (List.range wr.length).map (· + 0)
abbrev zk_iC (wr wc : va_W) : List Nat := (List.range wc.length).map (· + wr.length)
theorem zk_map_some (w0 : va_W) (f : Nat → Option (Nat × va_E)) (h : ∀ i, i < w0.length → f i = w0[i]?) : (List.range w0.length).map f = w0.map some := by
  apply List.ext_getElem?
  intro i
  rw [List.getElem?_map, List.getElem?_map]
  by_cases hi : i < w0.length
  · rw [List.getElem?_range hi, Option.map_some, h i hi, List.getElem?_eq_getElem hi]; rfl
  · rw [List.getElem?_eq_none (by rw [List.length_range]; omega), List.getElem?_eq_none (by omega)]; rfl
theorem zk_ixC (wr wc : va_W) : (zk_iC wr wc).map (fun i => (wr ++ wc)[i]?) = wc.map some := by
  rw [List.map_map]
  refine zk_map_some wc _ (fun i hi => ?_)
  show (wr ++ wc)[i + wr.length]? = _
  rw [List.getElem?_append_right (by omega), Nat.add_sub_cancel]
theorem zk_ixR (wr wc : va_W) : (zk_iR wr).map (fun i => (wr ++ wc)[i]?) = wr.map some := by
  rw [List.map_map]
  refine zk_map_some wr _ (fun i hi => ?_)
  show (wr ++ wc)[i + 0]? = _
  rw [Nat.add_zero, List.getElem?_append_left hi]
theorem zk_ixD (wr wc : va_W) : ∀ i ∈ zk_iR wr, i ∉ zk_iC wr wc := by
  intro i h1 h2
  obtain ⟨a, ha, e1⟩ := List.mem_map.mp h1
  obtain ⟨b, hb, e2⟩ := List.mem_map.mp h2
  have := List.mem_range.mp ha
  omega
theorem zk_Z.swap {D : va_G} {A : Nat → Prop} {s : State} {H : Heap} {locs : List Loc} {a b : va_W} (h : zk_Z D A s H locs (a ++ b)) : zk_Z D A s H locs (b ++ a) := by
  refine h.sub (zk_iC a b ++ zk_iR a) ?_ ?_
  · have key : ∀ (l1 l2 : List Nat), va_nd l1 = true → va_nd l2 = true → (∀ i ∈ l2, i ∉ l1) → va_nd (l1 ++ l2) = true := by
      intro l1
      induction l1 with
      | nil => intro l2 _ h2 _; exact h2
      | cons x l1 ih =>
        intro l2 h1 h2 h3
        have h1' : (decide (x ∉ l1) && va_nd l1) = true := h1
        rw [Bool.and_eq_true, decide_eq_true_eq] at h1'
        show (decide (x ∉ l1 ++ l2) && va_nd (l1 ++ l2)) = true
        rw [Bool.and_eq_true, decide_eq_true_eq]
        refine ⟨fun q => ?_, ih l2 h1'.2 h2 (fun i hi q => h3 i hi (List.mem_cons_of_mem _ q))⟩
        rcases List.mem_append.mp q with z | z
        · exact h1'.1 z
        · exact h3 x z List.mem_cons_self
    exact key _ _ (zk_nd_range _ _) (zk_nd_range _ _) (fun i hi q => zk_ixD a b i hi q)
  · rw [List.map_append, zk_ixC, zk_ixR, List.map_append]
/-- what a contract leaves may be read in another order, and more said of it -/
def zk_like (w w0 : va_W) : Prop := ∃ is : List Nat, va_nd is = true ∧ is.map (fun i => w[i]?) = w0.map some
theorem zk_like.rf (w : va_W) : zk_like w w := ⟨zk_iR w, zk_nd_range _ _, by have h := zk_ixR w []; rwa [List.append_nil] at h⟩
theorem zk_like.P {w w0 : va_W} (h : zk_like w w0) {D : va_G} {H : Heap} (hP : va_P D nc w H) : va_P D nc w0 H := by
  obtain ⟨is, h1, h2⟩ := h
  refine hP.sub is ?_
  have h3 : (is.map (fun i => w[i]?)).filterMap id = (w0.map some).filterMap id := by rw [h2]
  simpa [List.filterMap_map] using h3
theorem zk_like.D {w w0 : va_W} (h : zk_like w w0) {A : Nat → Prop} (hD : va_D A w) : va_D A w0 := by
  obtain ⟨is, h1, h2⟩ := h
  exact hD.sub is h1 h2
section
variable {l : Launch} {y : MethodName} {ws : List Cond} {rm : Room} {D : va_G} {g : G4} {As : List Value} {w wc wr : va_W}
theorem zk_A_sub {sz : Nat} (isC : List Nat) (hC : isC.map (fun i => w[i]?) = wc.map some) : ∀ q, va_A wc sz q → va_A w sz q := by
  intro q h
  rcases h with ⟨k, e, h⟩ | h
  · have h2 : (isC.map (fun i => w[i]?))[k]? = some (some (q, e)) := by rw [hC, List.getElem?_map, h]; rfl
    rw [List.getElem?_map] at h2
    cases hi : isC[k]? with
    | none => rw [hi] at h2; cases h2
    | some i => rw [hi] at h2; exact Or.inl ⟨i, e, Option.some.inj h2⟩
  · exact Or.inr h
/-- the cells that the method doesn't look at stay -/
theorem zk_pre_sub {sz : Nat} (isC : List Nat) (hC : isC.map (fun i => w[i]?) = wc.map some) (hnC : va_nd isC = true) {a : Array Value} {s : State} (hp : zk_pre D g As w sz a s) : zk_pre D g As wc sz a s := by
  obtain ⟨h0, h1, hP, hK, hD, hN⟩ := hp
  have hl : zk_like w wc := ⟨isC, hnC, hC⟩
  exact ⟨h0, h1, hl.P hP, hK, hl.D hD, hN.go (State.WarmedH.refl s) (fun _ _ _ => rfl) (zk_A_sub isC hC)⟩
theorem zk_M.frame {Qx Qx' : Option Value → va_W → Prop} (hM : zk_M l y ws rm D g As wc Qx) (isC isR : List Nat) (hC : isC.map (fun i => w[i]?) = wc.map some) (hR : isR.map (fun i => w[i]?) = wr.map some) (hnC : va_nd isC = true) (hn : va_nd isR = true) (hdis : ∀ i ∈ isR, i ∉ isC)
    (hq : ∀ v w1, Qx v w1 → ∃ w0, Qx' v w0 ∧ zk_like (wr ++ w1) w0) : zk_M l y ws rm D g As w Qx' := by
  intro sz
  refine MetFree.mono (P' := zk_pre D g As w sz) (K' := fun _ _ _ _ _ => True) (hM sz) (fun a s hp => zk_pre_sub isC hC hnC hp) (fun _ _ _ _ _ h => h) ?_
  rintro a s o s' hp ⟨⟨⟨v, w1, ho, hq1, hP1, hD1⟩, hz, hk⟩, L, hL1, hL2⟩
  obtain ⟨h0, h1, hP, hK, hD, hN⟩ := hp
  obtain ⟨w0, hx, hl⟩ := hq v w1 hq1
  have hF : ∀ q, va_A wc sz q → va_A w sz q := zk_A_sub isC hC
  subst h1
  obtain ⟨hP2, hD2⟩ := va_join (H1 := s'.heap) hP (hD.self (sz := s.heap.size)) isC isR hC hR hn hdis hk hF hP1 hD1
  exact ⟨⟨⟨v, w0, ho, hx, hl.P hP2, hl.D hD2⟩, hz, fun q h2 h3 => hk q h2 (fun z => h3 (hF q z))⟩, L, hL1, fun q h2 => hF _ (hL2 q h2)⟩
theorem zk_MT.frame {X : String} {Qx Qx' : va_W → Prop} (hM : zk_MT l y ws rm D g As wc X Qx) (isC isR : List Nat) (hC : isC.map (fun i => w[i]?) = wc.map some) (hR : isR.map (fun i => w[i]?) = wr.map some) (hnC : va_nd isC = true) (hn : va_nd isR = true) (hdis : ∀ i ∈ isR, i ∉ isC)
    (hq : ∀ w1, Qx w1 → ∃ w0, Qx' w0 ∧ zk_like (wr ++ w1) w0) : zk_MT l y ws rm D g As w X Qx' := by
  intro sz
  refine MetFree.mono (P' := zk_pre D g As w sz) (K' := fun _ _ _ _ _ => True) (hM sz) (fun a s hp => zk_pre_sub isC hC hnC hp) (fun _ _ _ _ _ h => h) ?_
  rintro a s o s' hp ⟨⟨⟨x, cell, w1, ho, hc1, hc2, hc3, hq1, hP1, hD1⟩, hz, hk⟩, L, hL1, hL2⟩
  obtain ⟨h0, h1, hP, hK, hD, hN⟩ := hp
  obtain ⟨w0, hx, hl⟩ := hq w1 hq1
  have hF : ∀ q, va_A wc sz q → va_A w sz q := zk_A_sub isC hC
  subst h1
  obtain ⟨hP2, hD2⟩ := va_join (H1 := s'.heap) hP (hD.self (sz := s.heap.size)) isC isR hC hR hn hdis hk hF hP1 hD1
  exact ⟨⟨⟨x, cell, w0, ho, hc1, hc2, hc3, hx, hl.P hP2, hl.D hD2⟩, hz, fun q h2 h3 => hk q h2 (fun z => h3 (hF q z))⟩, L, hL1, fun q h2 => hF _ (hL2 q h2)⟩
end
/-! the law's methods -/
def zk_preL (D : va_G) (g : G4) (As : List Value) (w : va_W) (sz : Nat) : Array Value → State → Prop := va_Pc As (fun U => U.heap.size = sz ∧ va_P D nc w U.heap ∧ va_K D nc (tyl g) U ∧ va_D (fun _ => True) w ∧ zk_N (va_A w sz) U U.heap ∧ zk_NC U)
def zk_ML (l : Launch) (y : MethodName) (ws : List Cond) (rm : Room) (D : va_G) (g : G4) (As : List Value) (w : va_W) (Qx : Option Value → va_W → Prop) : Prop := ∀ sz : Nat, Met l y ws rm (zk_preL D g As w sz) (zk_Q D (va_A w sz) Qx) rm.cells rm.slots (va_A w sz)
theorem zk_blindL {D : va_G} {g : G4} {As : List Value} {w : va_W} {sz : Nat} : FrameBlind (zk_preL D g As w sz) := by
  intro a U gf mk h
  obtain ⟨h0, h1, hP, hK, hD, hN, hC⟩ := h
  exact ⟨h0, h1, hP, va_K.moved (u := U) (U := U.calling gf mk a) (Vm.Alike.refl U.vm) hK, hD, hN.go (U := U) (U' := U.calling gf mk a) (State.WarmedH.refl U) (fun _ _ _ => rfl) (fun _ h => h), zk_NC.moved (u := U) (U := U.calling gf mk a) (Vm.Alike.refl U.vm) hC⟩
section
variable {l : Launch}
theorem zk_ofWL {y : MethodName} {cc : ByteArray} {maxL : Nat} {ret : Option FieldType} {hh : List (Nat × Nat × Nat × Nat)} {rm : Room} {D : va_G} {g : G4} {As : List Value} {w : va_W} {Qx : Option Value → va_W → Prop} (hy : plainName y.cls = true) (hL : (lg_sl As).length ≤ maxL)
    (body : ∀ (p : Program) (e : Env) (s : State) (m : MethodId) (below : List Frame) (meth : Method) (c : Code) (A : Nat → Prop), zk_C p s m c As.toArray cc maxL y.cls D g A → zk_NC s → c.exceptionTable.toList.map (fun h => (h.startPc, h.endPc, h.handlerPc, h.catchType)) = hh → meth.sig.returnType = ret → meth.locks = false → zk_Z D A s s.heap [] w → ∀ ls : Array Slot, lv_has ls maxL (lv_args 0 As) → W p l e rm s m As.toArray below meth c s.heap [] 0 0 (MQ below (zk_Q D A Qx) As.toArray s rm.cells rm.slots A) (F0 m 0 ls [])) :
    zk_ML l y (wsW_ y cc maxL ret hh) rm D g As w Qx := by
  intro sz
  refine va_MetW (cc := cc) (maxL := maxL) (ret := ret) (hh := hh) hy rfl ?_
  intro p e s m args below meth c s₁ B hml hv
  obtain ⟨rfl, hsz, hP, hK, hD0, hN, hNC⟩ := hv
  have hts0 := atoms_spec (ws := wsW_ y cc maxL ret hh) B.pre
  have hts : ∀ w ∈ lw_all, w.before As.toArray s = true := fun w h => hts0 w (List.mem_cons_of_mem _ h)
  have hown : s.vm.findClass y.cls = some m.cls := findClass_of_methodNamed B.named
  have htab : c.exceptionTable.toList.map (fun h => (h.startPc, h.endPc, h.handlerPc, h.catchType)) = hh := by
    obtain ⟨m9, meth9, c9, hn9, k1, k2, -, -, k5, -⟩ := Cond.codeWith_spec (hts0 _ List.mem_cons_self)
    cases B.named.symm.trans hn9
    cases k1.symm.trans B.method
    cases k2.symm.trans (Stand.of_body B).code
    exact k5
  subst hsz
  have hl := lv_entry As (n := maxL) hL
  rw [lg_entry_eq]
  exact body p e s m below meth c (va_A w s.heap.size) ⟨⟨B.exec, B.bytes, hml, hown, hts⟩, hK, fun q h => Or.inr h, hN⟩ hNC htab B.returns B.notSynchronized ⟨hP, hD0.self, va_S.rf⟩ _ hl
end
section
variable {p : Program} {l : Launch} {e : Env} {R : Room} {s : State} {m : MethodId} {args : Array Value} {below : List Frame} {meth : Method} {c : Code} {H : Heap} {locs : List Loc} {cells slots : Nat} {Q : State → Prop}
variable {cc : ByteArray} {pc : Nat} {ls : Array Slot} {rest : List Value} {D : va_G} {g : G4} {A : Nat → Prop} {own : String} {nL : Nat} {wr wc : va_W} {Qx : Option Value → va_W → Prop} {mc ms : Nat}
theorem zk_callVa (C : zk_C p s m c args cc nL own D g A) (Z : zk_Z D A s H locs (wr ++ wc)) {y : MethodName} {bytes : ByteArray} {maxL n index : Nat} {ret : Option FieldType} {rm : Room} {As : List Value} {b : Nat} {st0 : List Value}
    (hM : zk_M l y (ws_ y bytes maxL ret) rm D g (.ref b :: As) wc Qx) (q0 ci : Nat) {q : vw_C} {fs : List Value} (hc : nc[ci]? = some q) (he : wc[q0]? = some (b, .inr (ci, fs))) (hyq : y.cls = q.1) (h1 : Cond.methodLink own index y ∈ lw_all) (h2 : Cond.instanceMethod y ∈ lw_all) (h3 : Cond.selects y.cls y y ∈ lw_all) (h4 : Cond.initialized y.cls ∈ lw_all) (h5 : Cond.code y bytes maxL ret ∈ lw_all)
    (hd : y.cls ≠ "java/lang/invoke/MethodHandle" ∧ y.cls ≠ "java/lang/invoke/VarHandle" ∧ (parseMethodDescriptor y.desc).map (fun d => d.parameters.length) = some n) (hAn : As.length = n) (hfr : rm.frames + 1 ≤ R.frames) (hlo : 8 + (maxL + 11) + rm.locals ≤ R.locals) (hce : cells + rm.cells ≤ R.cells) (hsl : slots + rm.slots ≤ R.slots)
    {cells' slots' : Nat} (e1 : cells + rm.cells = cells') (e2 : slots + rm.slots = slots') (hsz : ls.size = nL) (hst : st0 = As.reverse ++ .ref b :: rest) (hroom : (rest.map fun v => v.category).sum ≤ 8) (hdg : decode cc pc = .ok (.invokevirtual index, 3))
    (kk : ∀ (v : Option Value) (w1 : va_W) (H : Heap) (locs : List Loc), Qx v w1 → zk_Z D A s H locs (wr ++ w1) → W p l e R s m args below meth c H locs cells' slots' Q (F0 m (pc + 3) ls (v.toList ++ rest))) : W p l e R s m args below meth c H locs cells slots Q (F0 m pc ls st0) :=
  zk_callV C Z hM (zk_iC wr wc) (zk_iR wr) (zk_ixC wr wc) (zk_ixR wr wc) (zk_nd_range _ _) (zk_nd_range _ _) (zk_ixD wr wc) (q0 + wr.length) ci hc (by rw [List.getElem?_append_right (by omega), Nat.add_sub_cancel]; exact he) hyq h1 h2 h3 h4 h5 hd hAn hfr hlo hce hsl e1 e2 hsz hst hroom hdg kk
theorem zk_callVTa (C : zk_C p s m c args cc nL own D g A) (Z : zk_Z D A s H locs (wr ++ wc)) {y : MethodName} {bytes : ByteArray} {maxL n index : Nat} {ret : Option FieldType} {rm : Room} {As : List Value} {b : Nat} {st0 : List Value} {X : String} {Qx : va_W → Prop}
    (hM : zk_MT l y (ws_ y bytes maxL ret) rm D g (.ref b :: As) wc X Qx) (q0 ci : Nat) {q : vw_C} {fs : List Value} (hc : nc[ci]? = some q) (he : wc[q0]? = some (b, .inr (ci, fs))) (hyq : y.cls = q.1) (h1 : Cond.methodLink own index y ∈ lw_all) (h2 : Cond.instanceMethod y ∈ lw_all) (h3 : Cond.selects y.cls y y ∈ lw_all) (h4 : Cond.initialized y.cls ∈ lw_all) (h5 : Cond.code y bytes maxL ret ∈ lw_all)
    (hd : y.cls ≠ "java/lang/invoke/MethodHandle" ∧ y.cls ≠ "java/lang/invoke/VarHandle" ∧ (parseMethodDescriptor y.desc).map (fun d => d.parameters.length) = some n) (hAn : As.length = n) (hfr : rm.frames + 1 ≤ R.frames) (hlo : 8 + (maxL + 11) + rm.locals ≤ R.locals) (hce : cells + rm.cells ≤ R.cells) (hsl : slots + rm.slots ≤ R.slots)
    {cells' slots' : Nat} (e1 : cells + rm.cells = cells') (e2 : slots + rm.slots = slots') (hsz : ls.size = nL) (hst : st0 = As.reverse ++ .ref b :: rest) (hroom : (rest.map fun v => v.category).sum ≤ 8) (hdg : decode cc pc = .ok (.invokevirtual index, 3))
    (kk : ∀ w1 : va_W, Qx w1 → zk_thrown p l e R s m args below meth c cells' slots' Q D A X (wr ++ w1) (F0 m pc ls rest)) : W p l e R s m args below meth c H locs cells slots Q (F0 m pc ls st0) :=
  zk_callVT C Z hM (zk_iC wr wc) (zk_iR wr) (zk_ixC wr wc) (zk_ixR wr wc) (zk_nd_range _ _) (zk_nd_range _ _) (zk_ixD wr wc) (q0 + wr.length) ci hc (by rw [List.getElem?_append_right (by omega), Nat.add_sub_cancel]; exact he) hyq h1 h2 h3 h4 h5 hd hAn hfr hlo hce hsl e1 e2 hsz hst hroom hdg kk
/-- a static method with handlers is called -/
theorem zk_callSLa (C : zk_C p s m c args cc nL own D g A) (NC : zk_NC s) (Z : zk_Z D A s H locs (wr ++ wc)) {y : MethodName} {bytes : ByteArray} {maxL n index : Nat} {ret : Option FieldType} {hh : List (Nat × Nat × Nat × Nat)} {rm : Room} {As : List Value} {st0 : List Value}
    (hM : zk_ML l y (wsW_ y bytes maxL ret hh) rm D g As wc Qx) (h1 : Cond.methodLink own index y ∈ lw_all) (h2 : Cond.static y ∈ lw_all) (h4 : Cond.initialized y.cls ∈ lw_all) (h5 : Cond.codeWith y bytes maxL ret hh ∈ lw_all)
    (hd : y.cls ≠ "java/lang/invoke/MethodHandle" ∧ y.cls ≠ "java/lang/invoke/VarHandle" ∧ (parseMethodDescriptor y.desc).map (fun d => d.parameters.length) = some n) (hAn : As.length = n) (hfr : rm.frames + 1 ≤ R.frames) (hlo : 8 + (maxL + 11) + rm.locals ≤ R.locals) (hce : cells + rm.cells ≤ R.cells) (hsl : slots + rm.slots ≤ R.slots)
    {cells' slots' : Nat} (e1 : cells + rm.cells = cells') (e2 : slots + rm.slots = slots') (hsz : ls.size = nL) (hst : st0 = As.reverse ++ rest) (hroom : (rest.map fun v => v.category).sum ≤ 8) (hdg : decode cc pc = .ok (.invokestatic index, 3))
    (kk : ∀ (v : Option Value) (w1 : va_W) (H : Heap) (locs : List Loc), Qx v w1 → zk_Z D A s H locs (wr ++ w1) → W p l e R s m args below meth c H locs cells' slots' Q (F0 m (pc + 3) ls (v.toList ++ rest))) : W p l e R s m args below meth c H locs cells slots Q (F0 m pc ls st0) := by
  have hpS := zk_prS C Z (As := As) (zk_iC wr wc) (zk_nd_range _ _) (zk_ixC wr wc)
  have hp : PreS s H (zk_preL D g As wc H.size) As := ⟨zk_blindL, fun U hU hW => by
    obtain ⟨k0, k1, k2, k3, k4, k5⟩ := hpS.2 U hU hW
    exact ⟨k0, k1, k2, k3, k4, k5, zk_NC.moved hW.alike NC⟩⟩
  have ht := C.1.2.2.2.2
  have hws : ∀ w ∈ wsW_ y bytes maxL ret hh, ∀ (a' : Array Value) (U : State), s.WarmedH U.vm → w.before a' U = true := pay_in ht (lw_methW h5)
  have hini := ht _ h4
  have hr : va_Run p l e R s m args below meth c H locs cells slots rm.cells rm.slots (F0 m pc ls st0) rest (zk_Q D (va_A wc H.size) Qx As.toArray) (va_A wc H.size) := by
    have hK : Back l R p e below s args y 3 8 (PreOf R rm.cells rm.slots (zk_preL D g As wc H.size)) (PostOf (zk_Q D (va_A wc H.size) Qx) rm.cells rm.slots (va_A wc H.size)) :=
      va_backW (bytes := bytes) (maxL := maxL) (ret := ret) (hh := hh) (hM H.size) hp.1 rfl rfl hfr hlo hws List.mem_cons_self (fun a' U hW => word_at hW (Or.inl (by first | rfl | simp [Cond.onTables, Cond.keeps, Cond.steady])) hini)
    intro T hT X
    obtain ⟨mk, methM, cM, hnamed, hmethM, -, -, -, -, -, -, hsigM⟩ := Cond.codeWith_spec (ht _ h5)
    have hstatic : methM.isStatic = true := Cond.static_spec hnamed hmethM (ht _ h2)
    obtain ⟨kP, hkP, -⟩ := className_of_methodNamed hnamed
    have hinitP : kP.init = .initialized := Cond.initialized_spec (findClass_of_methodNamed hnamed) hkP hini
    have hlen : As.length = methM.sig.parameters.length := by
      have h9 := hd.2.2
      rw [hsigM] at h9
      exact hAn.trans (Option.some.inj h9).symm
    obtain ⟨vm₁, X₁, hstep₁⟩ := X.invokestatic C.1.1 C.1.2.2.2.1 (ht _ h1) hnamed hmethM hstatic hkP hinitP ⟨hd.1, hd.2.1⟩ (g := F0 m pc ls st0) rfl (argsL := As) (rest := rest) hlen hst (by rw [C.1.2.1]; exact hdg)
    obtain ⟨v, ⟨U', l2, c2, s2⟩, X', ⟨g', mk', t, L, e1, e2, hq, q1, hL, q2, q3⟩, hsteps⟩ := hK m meth c ⟨T.setVm vm₁, locs, cells, slots⟩ { (F0 m pc ls st0) with stack := rest } (.invokestatic index) mk As.toArray X₁ rfl (hsz.trans C.1.2.2.1.symm) (by rw [C.1.2.1]; exact hdg) (lv_room hroom) (X₁.named hnamed) ⟨hce, hsl, hp.2 (T.setVm vm₁) hT X₁.warmed⟩
    dsimp only [Pt.U, Pt.locs, Pt.cells, Pt.slots] at X' e1 e2 q1 q2 q3 hsteps
    subst q1; subst q2; subst q3
    exact ⟨v, (T.setVm vm₁).calling g' mk' As.toArray, t, U', L, hT, X', hL, e1, e2, hq, fun target h => hstep₁ _ fun acts => by rw [doInvoke_state]; exact hsteps.trans h⟩
  exact zk_go C Z (zk_iC wr wc) (zk_iR wr) (zk_ixC wr wc) (zk_ixR wr wc) (zk_nd_range _ _) (zk_ixD wr wc) hr e1 e2 kk
abbrev zk_oc1 (g : G4) (a : Nat) (f : Nat → Int64) : Nat × va_E := (a, .inl (g.2.1, 1, .inr (.inl f)))
theorem zk_last {w : va_W} (C : zk_C p s m c args cc nL own D g A) {a : Nat} {f : Nat → Int64} (Z : zk_Z D A s H locs (zk_oc1 g a f :: w)) {x : Int64} (hdg : decode cc pc = .ok (.lastore, 1))
    (kk : ∀ (f1 : Nat → Int64) (H : Heap) (locs : List Loc), f1 0 = x → zk_Z D A s H locs (zk_oc1 g a f1 :: w) → W p l e R s m args below meth c H locs cells slots Q (F0 m (pc + 1) ls rest)) : W p l e R s m args below meth c H locs cells slots Q (F0 m pc ls (.long x :: .int (nI 0) :: .ref a :: rest)) := by
  refine va_last C.1.1 C.1.2.1 C.2.1 Z.1 Z.2.1 Z.2.2 0 1 rfl rfl (vp_in_nI (by decide) (by decide)) hdg (fun H1 locs1 hP hD hS => ?_)
  refine kk (vp_updL f (nI 0).toNatClampNeg x) H1 locs1 ?_ ⟨hP, hD, hS⟩
  show (if (0 : Nat) = (nI 0).toNatClampNeg then x else f 0) = x
  rw [if_pos (by decide)]
end
