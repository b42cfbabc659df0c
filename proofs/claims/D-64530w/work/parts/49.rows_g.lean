/-! ===== OWN ROWS, seventh part: int[N][M] is made; Way[] is made and filled ===== -/
set_option maxRecDepth 100000
def zk_out (h i : Nat) : Nat → Option Nat := fun j => if j < i then some (h + 1 + j) else none
def zk_oc (cA : ClassId) (N h i : Nat) : Cell := arrV cA N (fun j => va_rf (zk_out h i j))
def zk_ic (cB : ClassId) (M : Nat) : Cell := arrV cB M (fun _ => .int 0)
/-- the state when i rows are there -/
def zk_stg (T : State) (cA cB : ClassId) (N M : Nat) : Nat → State
  | 0 => T.pushCell (zk_oc cA N T.heap.size 0)
  | i + 1 => ((zk_stg T cA cB N M i).pushCell (zk_ic cB M)).setCell T.heap.size (zk_oc cA N T.heap.size (i + 1))
theorem zk_oc_0 (cA : ClassId) (N h : Nat) : ({ cls := cA, slots := Array.replicate N .null, vm := .none } : Cell) = zk_oc cA N h 0 := by
  rw [arrV_new]
  unfold zk_oc
  congr 1
theorem zk_oc_s (cA : ClassId) (N h i : Nat) : (zk_oc cA N h i).setSlot i (.ref (h + 1 + i)) = zk_oc cA N h (i + 1) := by
  unfold zk_oc
  rw [arrV_store]
  congr 1
  funext j
  unfold updV zk_out
  by_cases e : j = i
  · subst e; rw [if_pos rfl, if_pos (by omega)]; rfl
  · rw [if_neg e]
    show va_rf (if j < i then some (h + 1 + j) else none) = _
    by_cases q : j < i
    · rw [if_pos q, if_pos (by omega)]
    · rw [if_neg q, if_neg (by omega)]
theorem zk_stg_f (T : State) (cA cB : ClassId) (N M : Nat) : ∀ i, (zk_stg T cA cB N M i).heap.size = T.heap.size + 1 + i ∧ (zk_stg T cA cB N M i).heap[T.heap.size]? = some (zk_oc cA N T.heap.size i) ∧ (zk_stg T cA cB N M i).vm = T.vm ∧ (zk_stg T cA cB N M i).slotsUsed = T.slotsUsed + N + i * M := by
  intro i
  induction i with
  | zero => exact ⟨by simp [zk_stg], by simp [zk_stg], rfl, by simp [zk_stg, zk_oc, arrV_size]⟩
  | succ i ih =>
    obtain ⟨a, b, d, u⟩ := ih
    have hlt : T.heap.size < (zk_stg T cA cB N M i).heap.size := by omega
    have hb' : ((zk_stg T cA cB N M i).pushCell (zk_ic cB M)).heap[T.heap.size]? = some (zk_oc cA N T.heap.size i) := by rw [State.heap_pushCell_of_lt (h := hlt)]; exact b
    refine ⟨?_, State.heap_setCell_self hb', ?_, ?_⟩
    · simp [zk_stg, State.setCell, a]; omega
    · simp [zk_stg, d]
    · simp [zk_stg, u, zk_ic, arrV_size, Nat.succ_mul]; omega
theorem zk_stg_top (T : State) (f : JFrame) (cA cB : ClassId) (N M : Nat) : ∀ i, zk_stg (T.setTop f) cA cB N M i = (zk_stg T cA cB N M i).setTop f := by
  intro i
  induction i with
  | zero => rfl
  | succ i ih => simp only [zk_stg, ih, State.heap_setTop, State.pushCell_setTop, State.setCell_setTop]
section
variable {E : CtlPost} {e : Env} {d : Bool} {acts : List Action} {s : State}
theorem zk_mk1 {cB cc : ClassId} {kB : Class} {M : Nat} (hk : s.vm.classes[cB]? = some kB) (hkind : kB.kind = .array cc .int) (hM : M < 1000) (hl : e.platform.arrayLengthLimit ≥ 1000) (hh : e.platform.maxHeapBytes ≥ 4000)
    (h1 : s.heap.size < e.platform.maxCells) (h2 : s.slotsUsed + M ≤ e.platform.maxSlots) {Q : Addr → Pre} (hq : ∀ acts', Q s.heap.size d acts' (s.pushCell (zk_ic cB M))) : wp (multianewarray.make cB [nI M]) Q E e d acts s := by
  have hc : (nI M).toNatClampNeg = M := nI_clamp (by omega)
  rw [multianewarray.make]
  simp only [wp_bind', W.ite, nI_pos (show M < 2 ^ 31 by omega), if_false, wp_pure', W.theClass, hk, hkind, Option.some.injEq, exists_eq_left']
  rw [hc]
  refine W.newArray_of hk hkind (by omega) (by show ¬ M * 4 > _; omega) h1 h2 rfl (fun acts' => ?_)
  have := hq acts'
  unfold zk_ic at this
  rw [← arrV_new] at this
  exact this
theorem zk_mk2 {cA cB cc : ClassId} {kA kB : Class} {N M : Nat} (hkA : s.vm.classes[cA]? = some kA) (hkindA : kA.kind = .array cB (.array .int)) (hkB : s.vm.classes[cB]? = some kB) (hkindB : kB.kind = .array cc .int) (hN : N < 1000) (hM : M < 1000) (hl : e.platform.arrayLengthLimit ≥ 1000) (hh : e.platform.maxHeapBytes ≥ 4000)
    (h1 : s.heap.size + 1 + N ≤ e.platform.maxCells) (h2 : s.slotsUsed + N + N * M ≤ e.platform.maxSlots) {Q : Addr → Pre} (hq : ∀ d' acts', Q s.heap.size d' acts' (zk_stg s cA cB N M N)) : wp (multianewarray.make cA [nI N, nI M]) Q E e d acts s := by
  have hc : (nI N).toNatClampNeg = N := nI_clamp (by omega)
  have hm0 := nI_pos (show M < 2 ^ 31 by omega)
  have hfind : ([nI M].find? (· < 0)) = none := by simp [hm0]
  rw [multianewarray.make]
  simp only [wp_bind', W.ite, nI_pos (show N < 2 ^ 31 by omega), if_false, wp_pure', W.theClass, hkA, hkindA, Option.some.injEq, exists_eq_left']
  rw [hc]
  refine W.newArray_of hkA hkindA (by omega) (by show ¬ N * 4 > _; omega) (by omega) (by have := Nat.zero_le (N * M); omega) rfl (fun acts' => ?_)
  simp only [hfind]
  rw [ite_self, wp_bind', Std.Legacy.Range.forIn_eq_forIn_range']
  have hsz : ([:N] : Std.Legacy.Range).size = N := by simp [Std.Legacy.Range.size]
  rw [hsz]
  refine wp_forIn_inv (fun rest s' => ∃ i, i ≤ N ∧ rest = List.range' i (N - i) ∧ s' = zk_stg s cA cB N M i) _ _ ⟨0, Nat.zero_le _, rfl, ?_⟩ ?_ ?_
  · show s.pushCell _ = s.pushCell _
    rw [← zk_oc_0]
  · rintro x rest s' d' acts' Q' ⟨i, hi, hl', rfl⟩ hnext
    have hlt : i < N := by
      rcases Nat.lt_or_ge i N with h | h
      · exact h
      · rw [show N - i = 0 by omega] at hl'; cases hl'
    rw [show N - i = (N - (i + 1)) + 1 by omega, List.range'_succ] at hl'
    obtain ⟨rfl, hrest⟩ := List.cons.inj hl'
    obtain ⟨f1, f2, f3, f4⟩ := zk_stg_f s cA cB N M x
    have hmul : x * M + M ≤ N * M := by rw [← Nat.succ_mul]; exact Nat.mul_le_mul_right M hlt
    simp only [wp_bind']
    refine zk_mk1 (by rw [f3]; exact hkB) hkindB hM hl hh (by rw [f1]; omega) (by rw [f4]; omega) (fun acts'' => ?_)
    have hlt0 : s.heap.size < (zk_stg s cA cB N M x).heap.size := by rw [f1]; omega
    simp only [wp_bind', W.writeLoc, wp_pure']
    refine ⟨zk_oc cA N s.heap.size x, by rw [State.heap_pushCell_of_lt (h := hlt0)]; exact f2, by simp [zk_oc, arrV], by unfold zk_oc; rw [arrV_size]; exact hlt, ?_, hnext _ _ _ ⟨x + 1, hlt, hrest, ?_⟩⟩
    · simp [zk_oc, arrV, State.fitsSlot, State.slotType?, f3, hkA, hkindA, fits]
    · rw [f1, zk_oc_s]; rfl
  · rintro s' d' acts' ⟨i, hi, hl', rfl⟩
    have hiN : i = N := by
      rcases Nat.lt_or_ge i N with h | h
      · rw [show N - i = (N - (i + 1)) + 1 by omega, List.range'_succ] at hl'; cases hl'
      · omega
    subst hiN
    simp only [wp_pure']
    exact hq _ _
end
section
variable {p : Program} {l : Launch} {e : Env} {R : Room} {s : State} {m : MethodId} {args : Array Value} {below : List Frame} {meth : Method} {c : Code} {H : Heap} {locs : List Loc} {cells slots : Nat} {Q : State → Prop}
variable {cc : ByteArray} {pc : Nat} {ls : Array Slot} {rest : List Value} {D : va_G} {g : G4} {A : Nat → Prop} {own : String} {nL : Nat} {w : va_W} {T : State}
theorem zk_Zpush (C : zk_C p s m c args cc nL own D g A) (Z : zk_Z D A s H locs w) {cA : ClassId} {a0 : vp_A} : zk_Z D A s (H.push (vp_cell cA a0)) locs (w ++ [(H.size, .inl (cA, a0))]) := by
  have o1 : ∀ q : Nat, q < H.size → (H.push (vp_cell cA a0))[q]? = H[q]? := fun q h => by rw [Array.getElem?_push, if_neg (by omega)]
  refine ⟨(Z.1.kept (fun k x hx => o1 x.1 ((Z.1 k x hx).lt))).app (fun k x hx => ?_), Z.2.1.push Z.1 rfl (C.2.2.1 _ Z.2.2.1), Nat.le_trans Z.2.2.1 (by simp), fun x h1 h2 => (o1 x (Nat.lt_of_lt_of_le h1 Z.2.2.1)).trans (Z.2.2.2.1 x h1 h2), Z.2.2.2.2⟩
  have hz : k < 1 := (List.getElem?_eq_some_iff.mp hx).1
  rw [show k = 0 by omega] at hx
  cases hx
  show (H.push (vp_cell cA a0))[H.size]? = some (vp_cell _ _)
  simp
abbrev zk_inE (g : G4) (M q : Nat) : Nat × va_E := (q, .inl (g.1, M, .inl (fun _ => 0)))
abbrev zk_inn (g : G4) (M q i : Nat) : va_W := (List.range i).map (fun j => ((q + 1 + j, .inl (g.1, M, .inl (fun _ => 0))) : Nat × va_E))
abbrev zk_outE (g : G4) (N q i : Nat) : Nat × va_E := (q, .inl (g.2.2.1, N, .inr (.inr (.inr (.inr (zk_out q i))))))
theorem zk_stgZ (C : zk_C p s m c args cc nL own D g A) (Z : zk_Z D A s T.heap locs w) (X : Stand p l e R s m args below meth c T locs cells slots) (N M : Nat) : ∀ i, ∃ L, Stand p l e R s m args below meth c (zk_stg T g.2.2.1 g.1 N M i) L (cells + 1 + i) (slots + N + i * M) ∧ zk_Z D A s (zk_stg T g.2.2.1 g.1 N M i).heap L (w ++ [zk_outE g N T.heap.size i] ++ zk_inn g M T.heap.size i) := by
  intro i
  induction i with
  | zero =>
    have hX := X.pushed (zk_oc g.2.2.1 N T.heap.size 0)
    rw [show (zk_oc g.2.2.1 N T.heap.size 0).slots.size = N from arrV_size _ _ _] at hX
    refine ⟨locs, by simpa [zk_stg] using hX, ?_⟩
    have hZ := zk_Zpush C Z (cA := g.2.2.1) (a0 := (N, .inr (.inr (.inr (.inr (zk_out T.heap.size 0))))))
    show zk_Z D A s (T.heap.push (zk_oc g.2.2.1 N T.heap.size 0)) locs (w ++ [zk_outE g N T.heap.size 0] ++ [])
    rw [List.append_nil]
    exact hZ
  | succ i ih =>
    obtain ⟨L, Xi, Zi⟩ := ih
    obtain ⟨f1, f2, f3, f4⟩ := zk_stg_f T g.2.2.1 g.1 N M i
    have hlt0 : T.heap.size < (zk_stg T g.2.2.1 g.1 N M i).heap.size := by rw [f1]; omega
    have hcell : ((zk_stg T g.2.2.1 g.1 N M i).pushCell (zk_ic g.1 M)).heap[T.heap.size]? = some (zk_oc g.2.2.1 N T.heap.size i) := by rw [State.heap_pushCell_of_lt (h := hlt0)]; exact f2
    have hX := (Xi.pushed (zk_ic g.1 M)).stored hcell i (.ref (T.heap.size + 1 + i))
    rw [zk_oc_s] at hX
    have e1 : (zk_ic g.1 M).slots.size = M := arrV_size _ _ _
    rw [e1] at hX
    have hZ := zk_Zpush C Zi (cA := g.1) (a0 := (M, .inl (fun _ => 0)))
    rw [f1] at hZ
    have hp : (w ++ [zk_outE g N T.heap.size i] ++ zk_inn g M T.heap.size i ++ [zk_inE g M (T.heap.size + 1 + i)])[w.length]? = some (zk_outE g N T.heap.size i) := by simp
    refine ⟨L ++ [⟨T.heap.size, i⟩], by rw [show slots + N + (i + 1) * M = slots + N + i * M + M by rw [Nat.succ_mul]; omega]; exact hX, ?_⟩
    have oq : ∀ q : Nat, q ≠ T.heap.size → (zk_stg T g.2.2.1 g.1 N M (i + 1)).heap[q]? = ((zk_stg T g.2.2.1 g.1 N M i).heap.push (vp_cell g.1 (M, .inl (fun _ => 0))))[q]? := by
      intro q hq
      show (((zk_stg T g.2.2.1 g.1 N M i).pushCell (zk_ic g.1 M)).setCell T.heap.size _).heap[q]? = _
      rw [State.heap_setCell_other (Ne.symm hq)]
      rfl
    have h9 : zk_Z D A s (zk_stg T g.2.2.1 g.1 N M (i + 1)).heap (L ++ [⟨T.heap.size, i⟩]) ((w ++ [zk_outE g N T.heap.size i] ++ zk_inn g M T.heap.size i ++ [zk_inE g M (T.heap.size + 1 + i)]).set w.length (zk_outE g N T.heap.size (i + 1))) := by
      refine ⟨hZ.1.set hZ.2.1 hp ?_ oq, hZ.2.1.set hp, hZ.2.2.put ?_ oq (hZ.2.1.2 _ _ hp)⟩
      · show (zk_stg T g.2.2.1 g.1 N M (i + 1)).heap[T.heap.size]? = some _
        rw [(zk_stg_f T g.2.2.1 g.1 N M (i + 1)).2.1]
        rfl
      · rw [(zk_stg_f T g.2.2.1 g.1 N M (i + 1)).1, Array.size_push, f1]; omega
    have e2 : ((w ++ [zk_outE g N T.heap.size i] ++ zk_inn g M T.heap.size i ++ [zk_inE g M (T.heap.size + 1 + i)]).set w.length (zk_outE g N T.heap.size (i + 1))) = w ++ [zk_outE g N T.heap.size (i + 1)] ++ zk_inn g M T.heap.size (i + 1) := by
      unfold zk_inn
      rw [List.range_succ, List.map_append]
      simp
    rw [e2] at h9
    exact h9
theorem zk_out_ra (q N : Nat) : zk_out q N = zk_ra ((List.range N).map (fun j => q + 1 + j)) := by
  funext j
  unfold zk_out zk_ra
  by_cases h : j < N
  · rw [if_pos h]; simp [h]
  · rw [if_neg h]; simp [Nat.not_lt.mp h]
theorem zk_multi (C : zk_C p s m c args cc nL own D g A) (Z : zk_Z D A s H locs w) {index : Nat} (hlk : Cond.classLink own index "[[I" ∈ lw_all) {N M : Nat} (hN : N < 1000) (hM : M < 1000) (hcells : cells + (1 + N) ≤ R.cells) (hslots : slots + (N + N * M) ≤ R.slots) (hdg : decode cc pc = .ok (.multianewarray index 2, 4))
    (kk : ∀ (q : Nat) (H : Heap) (locs : List Loc), zk_Z D A s H locs (w ++ [(q, .inl (g.2.2.1, N, .inr (.inr (.inr (.inr (zk_ra ((List.range N).map (fun j => q + 1 + j))))))))] ++ (List.range N).map (fun j => ((q + 1 + j, .inl (g.1, M, .inl (zk_ia (List.replicate M 0)))) : Nat × va_E))) → W p l e R s m args below meth c H locs (cells + 1 + N) (slots + N + N * M) Q (F0 m (pc + 4) ls (.ref q :: rest))) : W p l e R s m args below meth c H locs cells slots Q (F0 m pc ls (.int (nI M) :: .int (nI N) :: rest)) := by
  intro T hT X
  subst hT
  have hx := C.1.1
  have hb := C.1.2.1
  have hown := C.1.2.2.2.1
  have hpl : e.platform.magicAccessors = ({} : Platform).magicAccessors := by rw [X.admits.platform]
  obtain ⟨comp, cA, kA, hcomp, -, hkA, hkindA, hnameA⟩ := arrayOverA_spec C.2.2.2.2.2.2.2.1
  have hg3 : s.vm.findClass ("[" ++ (FieldType.array .int).toString) = some g.2.2.1 := (C.2.1.2 2 _ rfl).2
  cases Option.some.inj (hnameA.symm.trans hg3)
  have hg1 : s.vm.findClass ("[" ++ FieldType.int.toString) = some g.1 := (C.2.1.2 0 _ rfl).2
  have hcg : comp = g.1 := Option.some.inj (hcomp.symm.trans hg1)
  subst hcg
  obtain ⟨comp', kC, cc', hcomp', hkC, hkindC⟩ := Cond.arrayClass_spec (C.1.2.2.2.2 _ q76)
  have ecomp : comp' = g.1 := Option.some.inj (hcomp'.symm.trans hcomp)
  subst ecomp
  obtain ⟨c0, hfc0, hcl⟩ := Cond.classLink_spec hown (C.1.2.2.2.2 _ hlk) e.platform hpl
  have e3 : c0 = g.2.2.1 := Option.some.inj (hfc0.symm.trans hg3)
  subst e3
  obtain ⟨hg₁, hwarm₁, hready₁⟩ := State.classEntry (e := e) X.warmed hcl
  generalize T.vm.noted m.cls index (.cls g.2.2.1) = vm₁ at hg₁ hwarm₁ hready₁
  have hal : s.vm.Alike vm₁ := hwarm₁.alike
  obtain ⟨kA₁, hkA₁, heA⟩ := hal.2.2 _ _ hkA
  obtain ⟨kC₁, hkC₁, heC⟩ := hal.2.2 _ _ hkC
  have hkindA₁ : kA₁.kind = .array g.1 (.array .int) := by rw [heA]; exact hkindA
  have hkindC₁ : kC₁.kind = .array cc' .int := by rw [heC]; exact hkindC
  have X₁ := X.noted hwarm₁
  obtain ⟨hr1, hr2⟩ := X.roomAbove hcells hslots
  obtain ⟨L, XF, ZF⟩ := zk_stgZ C (T := T.setVm vm₁) Z X₁ N M N
  rw [show zk_outE g N (T.setVm vm₁).heap.size N = (T.heap.size, .inl (g.2.2.1, N, .inr (.inr (.inr (.inr (zk_ra ((List.range N).map (fun j => T.heap.size + 1 + j)))))))) by rw [← zk_out_ra]; rfl] at ZF
  have ei : zk_inn g M (T.setVm vm₁).heap.size N = (List.range N).map (fun j => ((T.heap.size + 1 + j, .inl (g.1, M, .inl (zk_ia (List.replicate M 0)))) : Nat × va_E)) := by
    rw [zk_ia_0]; rfl
  rw [ei] at ZF
  obtain ⟨t, a1, b1⟩ := kk T.heap.size _ L ZF _ rfl XF
  refine ⟨t, ?_, b1⟩
  have hl1 : e.platform.arrayLengthLimit ≥ 1000 := by rw [Launch.admits_arrayLengthLimit X.admits]; decide
  have hh1 : e.platform.maxHeapBytes ≥ 4000 := by rw [Launch.admits_maxHeapBytes X.admits]; decide
  have hdg' : decode c.code (F0 m pc ls (.int (nI M) :: .int (nI N) :: rest)).pc = .ok (.multianewarray index 2, 4) := by rw [hb]; exact hdg
  jvm_step X.here [hx, hdg']
  simp only [multianewarray.sem, wp_bind', W.resolveClassAt_links (State.method?_setTop (F0 m pc ls (.int (nI M) :: .int (nI N) :: rest)) X.here.top) hg₁]
  rw [W.popN, if_neg (by decide)]
  refine ⟨F0 m pc ls (.int (nI M) :: .int (nI N) :: rest), State.topJava?_setTop' (s := T.setVm vm₁) _ X.here.top, [.int (nI N), .int (nI M)], rest, rfl, rfl, ?_⟩
  simp only [List.mapM_cons, List.mapM_nil, wp_bind', wp_pure']
  refine zk_mk2 (kA := kA₁) (kB := kC₁) hkA₁ hkindA₁ hkC₁ hkindC₁ hN hM hl1 hh1 (by show T.heap.size + 1 + _ ≤ _; omega) (by show T.slotsUsed + _ + _ ≤ _; omega) (fun d' acts' => ?_)
  have eS : ((T.setTop (F0 m pc ls (.int (nI M) :: .int (nI N) :: rest))).setVm vm₁).setTop { (F0 m pc ls (.int (nI M) :: .int (nI N) :: rest)) with stack := rest } = (T.setVm vm₁).setTop { (F0 m pc ls (.int (nI M) :: .int (nI N) :: rest)) with stack := rest } := by
    show ((T.setVm vm₁).setTop _).setTop _ = _
    rw [State.setTop_setTop]
  rw [eS, zk_stg_top]
  simp only [wp_bind', W.mark, W.pushRef, State.topJava?_setTop' _ XF.here.top, Option.some.injEq, exists_eq_left', State.setTop_setTop, State.heap_setTop]
  intro acts
  simp [jvm, XF.here.top]
  exact a1
end
