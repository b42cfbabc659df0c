/-! ===== OWN ROWS, sixth part: calls through the interface, Way[] ===== -/
set_option maxRecDepth 100000
theorem lw_F {own : String} {idx : Nat} {C : String} {x y : MethodName} {b : ByteArray} {L : Nat} {r : Option FieldType} (h1 : Cond.methodLink own idx x ∈ lw_all) (h2 : Cond.selects C x y ∈ lw_all) (h3 : Cond.instanceMethod y ∈ lw_all) (h4 : Cond.initialized y.cls ∈ lw_all) (h5 : Cond.code y b L r ∈ lw_all) : GoodIn lw_all (va_wsF own idx C x y (ws_ y b L r)) := by
  refine lw_app ?_ (lw_meth h5)
  intro w hw
  simp only [List.mem_cons, List.not_mem_nil, or_false] at hw
  rcases hw with e | e | e | e
  · rw [e]; exact h1
  · rw [e]; exact h2
  · rw [e]; exact h3
  · rw [e]; exact h4
section
variable {p : Program} {l : Launch} {e : Env} {R : Room} {s : State} {m : MethodId} {args : Array Value} {below : List Frame} {meth : Method} {c : Code} {H : Heap} {locs : List Loc} {cells slots : Nat} {Q : State → Prop}
variable {cc : ByteArray} {pc : Nat} {ls : Array Slot} {rest : List Value} {D : va_G} {g : G4} {A : Nat → Prop} {own : String} {nL : Nat} {w : va_W} {Qx : Option Value → va_W → Prop} {mc ms : Nat}
theorem zk_go5 (C : zk_C p s m c args cc nL own D g A) (Z : zk_Z D A s H locs w) {wc wr : va_W} {As : Array Value} {st0 : List Value} (isC isR : List Nat) (hC : isC.map (fun i => w[i]?) = wc.map some) (hR : isR.map (fun i => w[i]?) = wr.map some) (hn : va_nd isR = true) (hdis : ∀ i ∈ isR, i ∉ isC)
    (hr : va_Run5 p l e R s m args below meth c H locs cells slots mc ms (F0 m pc ls st0) rest (zk_Q D (va_A wc H.size) Qx As) (va_A wc H.size))
    {cells' slots' : Nat} (e1 : cells + mc = cells') (e2 : slots + ms = slots') (kk : ∀ (v : Option Value) (w1 : va_W) (H : Heap) (locs : List Loc), Qx v w1 → zk_Z D A s H locs (wr ++ w1) → W p l e R s m args below meth c H locs cells' slots' Q (F0 m (pc + 5) ls (v.toList ++ rest))) : W p l e R s m args below meth c H locs cells slots Q (F0 m pc ls st0) := by
  subst e1; subst e2
  intro T hT X
  obtain ⟨v, st₀, t, T', L, h0, X', hL, e1, e2, ⟨⟨v', w1, hv, hq, hP1, hD1⟩, hz, hk⟩, st⟩ := hr T hT X
  cases hv
  rw [h0] at hz hk
  have hF := va_free Z.2.1 Z.2.2 C.2.2.1 isC hC
  obtain ⟨hP, hD⟩ := va_join (H1 := T'.heap) Z.1 Z.2.1 isC isR hC hR hn hdis (fun q h1 h2 => by rw [e1]; exact hk q h1 h2) hF (by rw [e1]; exact hP1) hD1
  obtain ⟨t2, a1, b1⟩ := kk v w1 T'.heap (locs ++ L) hq ⟨hP, hD, Nat.le_trans Z.2.2.1 (by rw [e1]; exact hz), fun q h1 h2 => by rw [e1, hk q (Nat.lt_of_lt_of_le h1 Z.2.2.1) (fun z => h2 (hF q z))]; exact Z.2.2.2.1 q h1 h2, fun q hq => by
      rcases List.mem_append.mp hq with h | h
      · exact Z.2.2.2.2 q h
      · exact hF _ (hL q h)⟩ T' rfl X'
  exact ⟨t2, st t2 a1, b1⟩
theorem zk_callF (C : zk_C p s m c args cc nL own D g A) (Z : zk_Z D A s H locs w) {x y : MethodName} {bytes : ByteArray} {maxL n index count : Nat} {ret : Option FieldType} {rm : Room} {As : List Value} {b : Nat} {wc wr : va_W} {st0 : List Value}
    (hM : zk_M l y (ws_ y bytes maxL ret) rm D g (.ref b :: As) wc Qx) (isC isR : List Nat) (hC : isC.map (fun i => w[i]?) = wc.map some) (hR : isR.map (fun i => w[i]?) = wr.map some) (hnC : va_nd isC = true) (hn : va_nd isR = true) (hdis : ∀ i ∈ isR, i ∉ isC)
    (q0 ci : Nat) {q : vw_C} {fs : List Value} (hc : nc[ci]? = some q) (he : w[q0]? = some (b, .inr (ci, fs))) (hF : va_Fw q.1 x y s) (h1 : Cond.methodLink own index x ∈ lw_all) (h2 : Cond.selects q.1 x y ∈ lw_all) (h3 : Cond.instanceMethod y ∈ lw_all) (h4 : Cond.initialized y.cls ∈ lw_all) (h5 : Cond.code y bytes maxL ret ∈ lw_all)
    (hd : x.cls ≠ "java/lang/invoke/MethodHandle" ∧ x.cls ≠ "java/lang/invoke/VarHandle" ∧ (parseMethodDescriptor x.desc).map (fun d => d.parameters.length) = some n) (hAn : As.length = n) (hfr : rm.frames + 1 ≤ R.frames) (hlo : 8 + (maxL + 11) + rm.locals ≤ R.locals) (hce : cells + rm.cells ≤ R.cells) (hsl : slots + rm.slots ≤ R.slots)
    {cells' slots' : Nat} (e1 : cells + rm.cells = cells') (e2 : slots + rm.slots = slots') (hsz : ls.size = nL) (hst : st0 = As.reverse ++ .ref b :: rest) (hroom : (rest.map fun v => v.category).sum ≤ 8) (hdg : decode cc pc = .ok (.invokeinterface index count, 5))
    (kk : ∀ (v : Option Value) (w1 : va_W) (H : Heap) (locs : List Loc), Qx v w1 → zk_Z D A s H locs (wr ++ w1) → W p l e R s m args below meth c H locs cells' slots' Q (F0 m (pc + 5) ls (v.toList ++ rest))) : W p l e R s m args below meth c H locs cells slots Q (F0 m pc ls st0) := by
  have hp := zk_prV C Z (As := As) isC hnC hC hc he
  exact zk_go5 C Z isC isR hC hR hn hdis (va_runF (C.2.1.1 ci q hc).2 C.1 (hM H.size) (va_cwF n C.1.2.2.2.2 (lw_F h1 h2 h3 h4 h5) rfl rfl rfl hF hd ⟨hfr, hlo⟩) hp rfl hAn hsz hst (lv_room hroom) hdg ⟨hce, hsl⟩) e1 e2 kk
/-- an element of Way[] -/
theorem zk_aaldW (C : zk_C p s m c args cc nL own D g A) (Z : zk_Z D A s H locs w) (q0 : Nat) {a n : Nat} {L : List Nat} (ha : w[q0]? = some (a, .inl (g.2.2.2, n, .inr (.inr (.inr (.inr (zk_ra L))))))) {i v : Nat} (hn : n < 2 ^ 31) (hi : i < n) (hv : L[i]? = some v) (hdg : decode cc pc = .ok (.aaload, 1))
    (kk : W p l e R s m args below meth c H locs cells slots Q (F0 m (pc + 1) ls (.ref v :: rest))) : W p l e R s m args below meth c H locs cells slots Q (F0 m pc ls (.int (nI i) :: .ref a :: rest)) := by
  have hlt : (nI i).toNatClampNeg < n := by rw [nI_clamp (by omega)]; exact hi
  refine W.aald (v := .ref v) (ty := .object "NoisyCodes$Way") C.1.1 C.1.2.1 (Z.1 q0 _ ha) ((C.2.1.2 3 _ rfl).1 n (fun j => va_rf (zk_ra L j))) rfl (fun q => by cases q) (by show ¬ (nI i < 0 ∨ (arrV _ _ _).slots.size ≤ _); rw [arrV_size]; exact vp_in_nI hi hn) ?_ rfl rfl hdg kk
  show (arrV _ _ _).slots[_]? = _
  rw [arrV_read _ _ hlt, nI_clamp (by omega)]
  show some (va_rf (zk_ra L i)) = _
  rw [zk_ra, hv]
  rfl
end
