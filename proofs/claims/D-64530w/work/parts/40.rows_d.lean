/-! ===== OWN ROWS, fourth part: exceptions: thrown, leaving a method, caught ===== -/
set_option maxRecDepth 100000
abbrev zk_nm : List String := ["java/lang/RuntimeException", "java/lang/Exception"]
def zk_ok (a : Cond) : Prop := a ∈ lw_all ∨ (a ∈ lw_tbl ∧ zk_kind a = true) ∨ a = .isRef (.static Bundle.tN "UNASSIGNED_STACK" Bundle.steD) ∨ a = .isRef (.static Bundle.tN "SUPPRESSED_SENTINEL" Bundle.listD) ∨ a = .laysStatic Bundle.tN "UNASSIGNED_STACK" Bundle.steD ∨ a = .laysStatic Bundle.tN "SUPPRESSED_SENTINEL" Bundle.listD
theorem zk_kindT {a : Cond} (h : zk_kind a = true) : a.onTables = true := by cases a <;> first | rfl | exact absurd h (fun h => by cases h)
theorem zk_ownIAE {own : String} {ic : Nat} (h : Cond.methodLink own ic (Bundle.initS "java/lang/IllegalArgumentException") ∈ lw_all) : ∀ a ∈ Bundle.ownAtoms own ic "java/lang/IllegalArgumentException" zk_nm, zk_ok a :=
  List.forall_mem_cons.mpr ⟨Or.inl q27, List.forall_mem_cons.mpr ⟨Or.inl q261, List.forall_mem_cons.mpr ⟨Or.inl q216, List.forall_mem_cons.mpr ⟨Or.inl q223, List.forall_mem_cons.mpr ⟨Or.inl q226, List.forall_mem_cons.mpr ⟨Or.inl q228, List.forall_mem_cons.mpr ⟨Or.inl q262, List.forall_mem_cons.mpr ⟨Or.inl q263, List.forall_mem_cons.mpr ⟨Or.inl q44, List.forall_mem_cons.mpr ⟨Or.inl q45, List.forall_mem_cons.mpr ⟨Or.inl q210, List.forall_mem_cons.mpr ⟨Or.inl q215, List.forall_mem_cons.mpr ⟨Or.inl q224, List.forall_mem_cons.mpr ⟨Or.inl q231, List.forall_mem_cons.mpr ⟨Or.inl q255, List.forall_mem_cons.mpr ⟨Or.inl q232, List.forall_mem_cons.mpr ⟨Or.inl q256, List.forall_mem_cons.mpr ⟨Or.inl q233, List.forall_mem_cons.mpr ⟨Or.inl q257, List.forall_mem_cons.mpr ⟨Or.inl q211, List.forall_mem_cons.mpr ⟨Or.inr (Or.inr (Or.inr (Or.inr (Or.inl rfl)))), List.forall_mem_cons.mpr ⟨Or.inl q213, List.forall_mem_cons.mpr ⟨Or.inr (Or.inr (Or.inr (Or.inr (Or.inr rfl)))), List.forall_mem_cons.mpr ⟨Or.inl q258, List.forall_mem_cons.mpr ⟨Or.inl q208, List.forall_mem_cons.mpr ⟨Or.inl q209, List.forall_mem_cons.mpr ⟨Or.inl q230, List.forall_mem_cons.mpr ⟨Or.inl q258, List.forall_mem_cons.mpr ⟨Or.inl q291, List.forall_mem_cons.mpr ⟨Or.inl q292, List.forall_mem_cons.mpr ⟨Or.inl q293, List.forall_mem_cons.mpr ⟨Or.inl q202, List.forall_mem_cons.mpr ⟨Or.inr (Or.inl ⟨q249, rfl⟩), List.forall_mem_cons.mpr ⟨Or.inl q202, List.forall_mem_cons.mpr ⟨Or.inl q203, List.forall_mem_cons.mpr ⟨Or.inl q204, List.forall_mem_cons.mpr ⟨Or.inl q205, List.forall_mem_cons.mpr ⟨Or.inr (Or.inl ⟨q251, rfl⟩), List.forall_mem_cons.mpr ⟨Or.inl q205, List.forall_mem_cons.mpr ⟨Or.inl q206, List.forall_mem_cons.mpr ⟨Or.inl q207, List.forall_mem_cons.mpr ⟨Or.inl q208, List.forall_mem_cons.mpr ⟨Or.inr (Or.inl ⟨q253, rfl⟩), List.forall_mem_cons.mpr ⟨Or.inl h, List.forall_mem_cons.mpr ⟨Or.inl q281, List.forall_mem_cons.mpr ⟨Or.inr (Or.inl ⟨q282, rfl⟩), List.forall_mem_cons.mpr ⟨Or.inl q283, List.forall_mem_cons.mpr ⟨Or.inl q220, List.forall_mem_cons.mpr ⟨Or.inl q284, List.forall_mem_cons.mpr ⟨Or.inl q285, List.forall_mem_cons.mpr ⟨Or.inl q286, List.forall_mem_cons.mpr ⟨Or.inl q287, List.forall_mem_cons.mpr ⟨Or.inr (Or.inr (Or.inl rfl)), List.forall_mem_cons.mpr ⟨Or.inr (Or.inr (Or.inr (Or.inl rfl))), List.forall_mem_cons.mpr ⟨Or.inl q229, List.forall_mem_cons.mpr ⟨Or.inl q259, List.forall_mem_cons.mpr ⟨Or.inl q288, fun _ h => absurd h List.not_mem_nil⟩⟩⟩⟩⟩⟩⟩⟩⟩⟩⟩⟩⟩⟩⟩⟩⟩⟩⟩⟩⟩⟩⟩⟩⟩⟩⟩⟩⟩⟩⟩⟩⟩⟩⟩⟩⟩⟩⟩⟩⟩⟩⟩⟩⟩⟩⟩⟩⟩⟩⟩⟩⟩⟩⟩⟩⟩
theorem zk_ownISE {own : String} {ic : Nat} (h : Cond.methodLink own ic (Bundle.initS "java/lang/IllegalStateException") ∈ lw_all) : ∀ a ∈ Bundle.ownAtoms own ic "java/lang/IllegalStateException" zk_nm, zk_ok a :=
  List.forall_mem_cons.mpr ⟨Or.inl q27, List.forall_mem_cons.mpr ⟨Or.inl q261, List.forall_mem_cons.mpr ⟨Or.inl q216, List.forall_mem_cons.mpr ⟨Or.inl q223, List.forall_mem_cons.mpr ⟨Or.inl q226, List.forall_mem_cons.mpr ⟨Or.inl q228, List.forall_mem_cons.mpr ⟨Or.inl q262, List.forall_mem_cons.mpr ⟨Or.inl q263, List.forall_mem_cons.mpr ⟨Or.inl q44, List.forall_mem_cons.mpr ⟨Or.inl q45, List.forall_mem_cons.mpr ⟨Or.inl q210, List.forall_mem_cons.mpr ⟨Or.inl q215, List.forall_mem_cons.mpr ⟨Or.inl q224, List.forall_mem_cons.mpr ⟨Or.inl q231, List.forall_mem_cons.mpr ⟨Or.inl q255, List.forall_mem_cons.mpr ⟨Or.inl q232, List.forall_mem_cons.mpr ⟨Or.inl q256, List.forall_mem_cons.mpr ⟨Or.inl q233, List.forall_mem_cons.mpr ⟨Or.inl q257, List.forall_mem_cons.mpr ⟨Or.inl q211, List.forall_mem_cons.mpr ⟨Or.inr (Or.inr (Or.inr (Or.inr (Or.inl rfl)))), List.forall_mem_cons.mpr ⟨Or.inl q213, List.forall_mem_cons.mpr ⟨Or.inr (Or.inr (Or.inr (Or.inr (Or.inr rfl)))), List.forall_mem_cons.mpr ⟨Or.inl q258, List.forall_mem_cons.mpr ⟨Or.inl q208, List.forall_mem_cons.mpr ⟨Or.inl q209, List.forall_mem_cons.mpr ⟨Or.inl q230, List.forall_mem_cons.mpr ⟨Or.inl q258, List.forall_mem_cons.mpr ⟨Or.inl q353, List.forall_mem_cons.mpr ⟨Or.inl q354, List.forall_mem_cons.mpr ⟨Or.inl q355, List.forall_mem_cons.mpr ⟨Or.inl q202, List.forall_mem_cons.mpr ⟨Or.inr (Or.inl ⟨q249, rfl⟩), List.forall_mem_cons.mpr ⟨Or.inl q202, List.forall_mem_cons.mpr ⟨Or.inl q203, List.forall_mem_cons.mpr ⟨Or.inl q204, List.forall_mem_cons.mpr ⟨Or.inl q205, List.forall_mem_cons.mpr ⟨Or.inr (Or.inl ⟨q251, rfl⟩), List.forall_mem_cons.mpr ⟨Or.inl q205, List.forall_mem_cons.mpr ⟨Or.inl q206, List.forall_mem_cons.mpr ⟨Or.inl q207, List.forall_mem_cons.mpr ⟨Or.inl q208, List.forall_mem_cons.mpr ⟨Or.inr (Or.inl ⟨q253, rfl⟩), List.forall_mem_cons.mpr ⟨Or.inl h, List.forall_mem_cons.mpr ⟨Or.inl q343, List.forall_mem_cons.mpr ⟨Or.inr (Or.inl ⟨q344, rfl⟩), List.forall_mem_cons.mpr ⟨Or.inl q345, List.forall_mem_cons.mpr ⟨Or.inl q221, List.forall_mem_cons.mpr ⟨Or.inl q346, List.forall_mem_cons.mpr ⟨Or.inl q347, List.forall_mem_cons.mpr ⟨Or.inl q348, List.forall_mem_cons.mpr ⟨Or.inl q349, List.forall_mem_cons.mpr ⟨Or.inr (Or.inr (Or.inl rfl)), List.forall_mem_cons.mpr ⟨Or.inr (Or.inr (Or.inr (Or.inl rfl))), List.forall_mem_cons.mpr ⟨Or.inl q229, List.forall_mem_cons.mpr ⟨Or.inl q259, List.forall_mem_cons.mpr ⟨Or.inl q350, fun _ h => absurd h List.not_mem_nil⟩⟩⟩⟩⟩⟩⟩⟩⟩⟩⟩⟩⟩⟩⟩⟩⟩⟩⟩⟩⟩⟩⟩⟩⟩⟩⟩⟩⟩⟩⟩⟩⟩⟩⟩⟩⟩⟩⟩⟩⟩⟩⟩⟩⟩⟩⟩⟩⟩⟩⟩⟩⟩⟩⟩⟩⟩
theorem zk_ownIOB {own : String} {ic : Nat} (h : Cond.methodLink own ic (Bundle.initS "java/lang/IndexOutOfBoundsException") ∈ lw_all) : ∀ a ∈ Bundle.ownAtoms own ic "java/lang/IndexOutOfBoundsException" zk_nm, zk_ok a :=
  List.forall_mem_cons.mpr ⟨Or.inl q27, List.forall_mem_cons.mpr ⟨Or.inl q261, List.forall_mem_cons.mpr ⟨Or.inl q216, List.forall_mem_cons.mpr ⟨Or.inl q223, List.forall_mem_cons.mpr ⟨Or.inl q226, List.forall_mem_cons.mpr ⟨Or.inl q228, List.forall_mem_cons.mpr ⟨Or.inl q262, List.forall_mem_cons.mpr ⟨Or.inl q263, List.forall_mem_cons.mpr ⟨Or.inl q44, List.forall_mem_cons.mpr ⟨Or.inl q45, List.forall_mem_cons.mpr ⟨Or.inl q210, List.forall_mem_cons.mpr ⟨Or.inl q215, List.forall_mem_cons.mpr ⟨Or.inl q224, List.forall_mem_cons.mpr ⟨Or.inl q231, List.forall_mem_cons.mpr ⟨Or.inl q255, List.forall_mem_cons.mpr ⟨Or.inl q232, List.forall_mem_cons.mpr ⟨Or.inl q256, List.forall_mem_cons.mpr ⟨Or.inl q233, List.forall_mem_cons.mpr ⟨Or.inl q257, List.forall_mem_cons.mpr ⟨Or.inl q211, List.forall_mem_cons.mpr ⟨Or.inr (Or.inr (Or.inr (Or.inr (Or.inl rfl)))), List.forall_mem_cons.mpr ⟨Or.inl q213, List.forall_mem_cons.mpr ⟨Or.inr (Or.inr (Or.inr (Or.inr (Or.inr rfl)))), List.forall_mem_cons.mpr ⟨Or.inl q258, List.forall_mem_cons.mpr ⟨Or.inl q208, List.forall_mem_cons.mpr ⟨Or.inl q209, List.forall_mem_cons.mpr ⟨Or.inl q230, List.forall_mem_cons.mpr ⟨Or.inl q258, List.forall_mem_cons.mpr ⟨Or.inl q395, List.forall_mem_cons.mpr ⟨Or.inl q396, List.forall_mem_cons.mpr ⟨Or.inl q397, List.forall_mem_cons.mpr ⟨Or.inl q202, List.forall_mem_cons.mpr ⟨Or.inr (Or.inl ⟨q249, rfl⟩), List.forall_mem_cons.mpr ⟨Or.inl q202, List.forall_mem_cons.mpr ⟨Or.inl q203, List.forall_mem_cons.mpr ⟨Or.inl q204, List.forall_mem_cons.mpr ⟨Or.inl q205, List.forall_mem_cons.mpr ⟨Or.inr (Or.inl ⟨q251, rfl⟩), List.forall_mem_cons.mpr ⟨Or.inl q205, List.forall_mem_cons.mpr ⟨Or.inl q206, List.forall_mem_cons.mpr ⟨Or.inl q207, List.forall_mem_cons.mpr ⟨Or.inl q208, List.forall_mem_cons.mpr ⟨Or.inr (Or.inl ⟨q253, rfl⟩), List.forall_mem_cons.mpr ⟨Or.inl h, List.forall_mem_cons.mpr ⟨Or.inl q417, List.forall_mem_cons.mpr ⟨Or.inr (Or.inl ⟨q418, rfl⟩), List.forall_mem_cons.mpr ⟨Or.inl q419, List.forall_mem_cons.mpr ⟨Or.inl q222, List.forall_mem_cons.mpr ⟨Or.inl q420, List.forall_mem_cons.mpr ⟨Or.inl q421, List.forall_mem_cons.mpr ⟨Or.inl q422, List.forall_mem_cons.mpr ⟨Or.inl q423, List.forall_mem_cons.mpr ⟨Or.inr (Or.inr (Or.inl rfl)), List.forall_mem_cons.mpr ⟨Or.inr (Or.inr (Or.inr (Or.inl rfl))), List.forall_mem_cons.mpr ⟨Or.inl q229, List.forall_mem_cons.mpr ⟨Or.inl q259, List.forall_mem_cons.mpr ⟨Or.inl q424, fun _ h => absurd h List.not_mem_nil⟩⟩⟩⟩⟩⟩⟩⟩⟩⟩⟩⟩⟩⟩⟩⟩⟩⟩⟩⟩⟩⟩⟩⟩⟩⟩⟩⟩⟩⟩⟩⟩⟩⟩⟩⟩⟩⟩⟩⟩⟩⟩⟩⟩⟩⟩⟩⟩⟩⟩⟩⟩⟩⟩⟩⟩⟩
theorem zk_ownARE {own : String} {ic : Nat} (h : Cond.methodLink own ic (Bundle.initS "java/lang/ArithmeticException") ∈ lw_all) : ∀ a ∈ Bundle.ownAtoms own ic "java/lang/ArithmeticException" zk_nm, zk_ok a :=
  List.forall_mem_cons.mpr ⟨Or.inl q27, List.forall_mem_cons.mpr ⟨Or.inl q261, List.forall_mem_cons.mpr ⟨Or.inl q216, List.forall_mem_cons.mpr ⟨Or.inl q223, List.forall_mem_cons.mpr ⟨Or.inl q226, List.forall_mem_cons.mpr ⟨Or.inl q228, List.forall_mem_cons.mpr ⟨Or.inl q262, List.forall_mem_cons.mpr ⟨Or.inl q263, List.forall_mem_cons.mpr ⟨Or.inl q44, List.forall_mem_cons.mpr ⟨Or.inl q45, List.forall_mem_cons.mpr ⟨Or.inl q210, List.forall_mem_cons.mpr ⟨Or.inl q215, List.forall_mem_cons.mpr ⟨Or.inl q224, List.forall_mem_cons.mpr ⟨Or.inl q231, List.forall_mem_cons.mpr ⟨Or.inl q255, List.forall_mem_cons.mpr ⟨Or.inl q232, List.forall_mem_cons.mpr ⟨Or.inl q256, List.forall_mem_cons.mpr ⟨Or.inl q233, List.forall_mem_cons.mpr ⟨Or.inl q257, List.forall_mem_cons.mpr ⟨Or.inl q211, List.forall_mem_cons.mpr ⟨Or.inr (Or.inr (Or.inr (Or.inr (Or.inl rfl)))), List.forall_mem_cons.mpr ⟨Or.inl q213, List.forall_mem_cons.mpr ⟨Or.inr (Or.inr (Or.inr (Or.inr (Or.inr rfl)))), List.forall_mem_cons.mpr ⟨Or.inl q258, List.forall_mem_cons.mpr ⟨Or.inl q208, List.forall_mem_cons.mpr ⟨Or.inl q209, List.forall_mem_cons.mpr ⟨Or.inl q230, List.forall_mem_cons.mpr ⟨Or.inl q258, List.forall_mem_cons.mpr ⟨Or.inl q199, List.forall_mem_cons.mpr ⟨Or.inl q200, List.forall_mem_cons.mpr ⟨Or.inl q201, List.forall_mem_cons.mpr ⟨Or.inl q202, List.forall_mem_cons.mpr ⟨Or.inr (Or.inl ⟨q249, rfl⟩), List.forall_mem_cons.mpr ⟨Or.inl q202, List.forall_mem_cons.mpr ⟨Or.inl q203, List.forall_mem_cons.mpr ⟨Or.inl q204, List.forall_mem_cons.mpr ⟨Or.inl q205, List.forall_mem_cons.mpr ⟨Or.inr (Or.inl ⟨q251, rfl⟩), List.forall_mem_cons.mpr ⟨Or.inl q205, List.forall_mem_cons.mpr ⟨Or.inl q206, List.forall_mem_cons.mpr ⟨Or.inl q207, List.forall_mem_cons.mpr ⟨Or.inl q208, List.forall_mem_cons.mpr ⟨Or.inr (Or.inl ⟨q253, rfl⟩), List.forall_mem_cons.mpr ⟨Or.inl h, List.forall_mem_cons.mpr ⟨Or.inl q198, List.forall_mem_cons.mpr ⟨Or.inr (Or.inl ⟨q247, rfl⟩), List.forall_mem_cons.mpr ⟨Or.inl q254, List.forall_mem_cons.mpr ⟨Or.inl q218, List.forall_mem_cons.mpr ⟨Or.inl q238, List.forall_mem_cons.mpr ⟨Or.inl q240, List.forall_mem_cons.mpr ⟨Or.inl q244, List.forall_mem_cons.mpr ⟨Or.inl q236, List.forall_mem_cons.mpr ⟨Or.inr (Or.inr (Or.inl rfl)), List.forall_mem_cons.mpr ⟨Or.inr (Or.inr (Or.inr (Or.inl rfl))), List.forall_mem_cons.mpr ⟨Or.inl q229, List.forall_mem_cons.mpr ⟨Or.inl q259, List.forall_mem_cons.mpr ⟨Or.inl q234, fun _ h => absurd h List.not_mem_nil⟩⟩⟩⟩⟩⟩⟩⟩⟩⟩⟩⟩⟩⟩⟩⟩⟩⟩⟩⟩⟩⟩⟩⟩⟩⟩⟩⟩⟩⟩⟩⟩⟩⟩⟩⟩⟩⟩⟩⟩⟩⟩⟩⟩⟩⟩⟩⟩⟩⟩⟩⟩⟩⟩⟩⟩⟩
section
variable {p : Program} {l : Launch} {e : Env} {R : Room} {s : State} {m : MethodId} {args : Array Value} {below : List Frame} {meth : Method} {c : Code} {H : Heap} {locs : List Loc} {cells slots : Nat} {Q : State → Prop}
variable {cc : ByteArray} {pc : Nat} {ls : Array Slot} {rest : List Value} {D : va_G} {g : G4} {A : Nat → Prop} {own : String} {nL : Nat} {w : va_W} {mc ms : Nat} {T : State}
theorem zk_okB (C : zk_C p s m c args cc nL own D g A) {a : Cond} (h : zk_ok a) : a.before args s = true := by
  rcases h with h | ⟨h, k⟩ | h | h | h | h
  · exact C.1.2.2.2.2 a h
  · exact va_Nw.use (zk_kindT k) (zk_nw C.2.2.2 h k)
  · subst h; exact C.2.2.2.2.2.2.2.2.1.ref
  · subst h; exact C.2.2.2.2.2.2.2.2.2.ref
  · subst h; exact C.2.2.2.2.2.2.2.2.1.lays
  · subst h; exact C.2.2.2.2.2.2.2.2.2.lays
/-- the walk, seen from where it stands now -/
abbrev zk_now (s T : State) : State := { s with heap := T.heap, slotsUsed := T.slotsUsed, vm := T.vm }
theorem zk_rebase (X : Stand p l e R s m args below meth c T locs cells slots) (hce : cells ≤ R.cells) (hsl : slots ≤ R.slots) : Stand p l e { frames := R.frames, cells := R.cells - cells, slots := R.slots - slots, locals := R.locals } (zk_now s T) m args below meth c T [] 0 0 := by
  have hT : T = { (zk_now s T).setFrames T.frames with heap := T.heap, slotsUsed := T.slotsUsed } := by
    have h1 : T = (T.setVm s.vm).setVm T.vm := rfl
    have h2 := X.same.1
    rw [h2] at h1
    exact h1
  have hroom := X.room
  have hlu : (zk_now s T).localsInUse = s.localsInUse := by
    rw [State.localsInUse_invoking X.frames X.method X.code, State.localsInUse_invoking (s := zk_now s T) X.frames X.method' X.code]
  refine ⟨X.admits, X.cas, X.clock, X.frames, ?_, ?_, X.method', X.code, X.here, X.tail, State.WarmedH.refl (zk_now s T), X.limits, X.bytes, ?_⟩
  · simp only [State.hasRoom, Bool.and_eq_true, decide_eq_true_eq] at hroom ⊢
    obtain ⟨⟨⟨⟨r1, r2⟩, r3⟩, r4⟩, r5⟩ := hroom
    have z1 := X.heapSize
    have z2 := X.used
    rw [hlu]
    exact ⟨⟨⟨⟨r1, r2⟩, by show T.heap.size + _ ≤ _; omega⟩, by show T.slotsUsed + _ ≤ _; omega⟩, X.book⟩
  · have hh := X.hears
    unfold State.hears at hh ⊢
    split at hh
    · rename_i gg rr
      have e1 : (zk_now s T).code? gg.method = s.code? gg.method := by
        rw [State.code?_eq, State.code?_eq]
        show (T.vm.method? gg.method).bind _ = _
        rw [X.warmed.alike.method?]
      simp only [e1]; exact hh
    · rfl
    · rfl
    · show (T.vm.method? m).any _ = true
      rw [X.warmed.alike.method?]; exact hh
  · refine ⟨hT, Nat.le_refl _, Nat.le_refl _, ?_, ?_, fun a c h => ⟨c, h, rfl, rfl, fun _ _ => rfl⟩⟩
    · show T.slotsUsed = T.slotsUsed + ((T.heap.toList.drop T.heap.size).map (·.slots.size)).sum
      rw [List.drop_of_length_le (by simp)]; rfl
    · show ((T.heap.toList.drop T.heap.size).map (·.slots.size)).sum ≤ 0
      rw [List.drop_of_length_le (by simp)]; exact Nat.le_refl _
/-- what was there before is just as it was -/
theorem zk_keep {s U : State} {vm : Vm} {n k : Nat} (h : s.sameButNew ({ U with vm := vm } : State) [] n k) {q : Nat} (hq : q < s.heap.size) : U.heap[q]? = s.heap[q]? := by
  obtain ⟨c', h1, h2, h3, h4⟩ := h.2.2.2.2.2 q _ (Array.getElem?_eq_getElem hq)
  have h1' : U.heap[q]? = some c' := h1
  rw [h1', Array.getElem?_eq_getElem hq]
  have e : c'.slots = (s.heap[q]).slots := by
    apply Array.ext_getElem?
    intro i
    exact h4 i (by simp)
  rw [h2, e]
/-- the end of a method that throws an X -/
def zk_QT (D : va_G) (A : Nat → Prop) (X : String) (Qx : va_W → Prop) : Array Value → State → Outcome → State → Prop := fun _ st oc t => (∃ (x : Addr) (cell : Cell) (w1 : va_W), oc = .threw x ∧ t.heap[x]? = some cell ∧ t.vm.findClass X = some cell.cls ∧ cell.vm = .none ∧ Qx w1 ∧ va_P D nc w1 t.heap ∧ va_D A w1) ∧ va_F A st t
def zk_MQT (below : List Frame) (Qc : Array Value → State → Outcome → State → Prop) (a : Array Value) (s : State) (mc ms : Nat) (free : Addr → Prop) : State → Prop := fun t => ∃ o, t.status = .running ∧ Ended t below o ∧ Qc a s o t ∧ ∃ L, FramedT s o t L mc ms ∧ ∀ q ∈ L, free q.base
/-- A CONTRACT OF A METHOD THAT THROWS AN X -/
def zk_MT (l : Launch) (y : MethodName) (ws : List Cond) (rm : Room) (D : va_G) (g : G4) (As : List Value) (w : va_W) (X : String) (Qx : va_W → Prop) : Prop := ∀ sz : Nat, MetFree l y (headSpec ws rm) (zk_pre D g As w sz) (fun _ _ _ _ _ => True) (fun a st o t => zk_QT D (va_A w sz) X Qx a st o t ∧ ∃ L, FramedT st o t L rm.cells rm.slots ∧ ∀ q ∈ L, va_A w sz q.base)
/-- the context, seen from where the walk stands now -/
theorem zk_Cnow (C : zk_C p s m c args cc nL own D g A) (Z : zk_Z D A s H locs w) (hT : T.heap = H) (X : Stand p l e R s m args below meth c T locs cells slots) : zk_C p (zk_now s T) m c args cc nL own D g (fun q => T.heap.size ≤ q) := by
  obtain ⟨⟨h1, h2, h3, h4, h5⟩, hK, hA, hN⟩ := C
  have hW : s.WarmedH (zk_now s T).vm := X.warmed
  refine ⟨⟨h1, h2, h3, by rw [show (zk_now s T).vm = T.vm from rfl, X.warmed.alike.findClass]; exact h4, fun w hw => word_at (args := args) (s := s) (U := zk_now s T) hW (lw_self w hw).2 (h5 w hw)⟩, va_K.moved hW.alike hK, fun q h => h, ?_⟩
  refine hN.go hW (fun a h1 h2 => ?_) (fun q hq => hA q (Nat.le_trans ?_ hq))
  · show T.heap[a]? = s.heap[a]?
    rw [hT]; exact Z.2.2.2.1 a h1 h2
  · rw [hT]; exact Z.2.2.1
theorem zk_throw (hfl : l.flags = flags0) (C : zk_C p s m c args cc nL own D g A) (Z : zk_Z D A s H locs w) (hlocks : meth.locks = false) (hnoh : c.exceptionTable.isEmpty = true) {X tx : String} {ix ik ic : Nat} {Qx : va_W → Prop} (hfit : Bundle.fit X = true) (hat : ∀ a ∈ Bundle.ownAtoms own ic X zk_nm, zk_ok a) (hcl : Cond.classLink own ix X ∈ lw_all) (hini : Cond.initialized X ∈ lw_all) (hstr : Cond.stringRef own ik tx ∈ lw_tbl) (hq : Qx w)
    (hfr : 6 ≤ R.frames) (hlo : 100 ≤ R.locals) (hce : cells + 1 ≤ R.cells) (hsl : slots + 6 ≤ R.slots) (hmc : cells + 1 ≤ mc) (hms : slots + 6 ≤ ms) (hsz : ls.size = nL)
    (d0 : decode cc pc = .ok (.new ix, 3)) (d1 : decode cc (pc + 3) = .ok (.dup, 1)) (d2 : decode cc (pc + 4) = .ok (.ldc ik, 2)) (d3 : decode cc (pc + 6) = .ok (.invokespecial ic, 3)) (d4 : decode cc (pc + 9) = .ok (.athrow, 1)) :
    W p l e R s m args below meth c H locs cells slots (zk_MQT below (zk_QT D A X Qx) args s mc ms A) (F0 m pc ls []) := by
  intro T hT X0
  have XR := zk_rebase X0 (by omega) (by omega)
  have C' := zk_Cnow C Z hT X0
  have hB : ∀ a ∈ Bundle.ownAtoms own ic X zk_nm, a.before args (zk_now s T) = true := fun a ha => zk_okB C' (hat a ha)
  obtain ⟨str, hstr'⟩ := C'.2.2.2.2.2.1 own ik tx hstr
  refine (W.newc C'.1.1 C'.1.2.1 C'.1.2.2.2.1 (C'.1.2.2.2.2 _ hcl) (hB (.instantiable X 6) (by simp [Bundle.ownAtoms])) (C'.1.2.2.2.2 _ hini) rfl d0 (by show 0 + 1 ≤ R.cells - cells; omega) (by show 0 + 6 ≤ R.slots - slots; omega) (fun cX kX f1 f2 f3 f4 => ?_) : W p l e _ (zk_now s T) m args below meth c T.heap [] 0 0 _ (F0 m pc ls [])) T rfl XR
  refine lv_dup C'.1.1 C'.1.2.1 d1 rfl ?_
  refine va_ldcS C'.1.1 C'.1.2.1 C'.1.2.2.2.1 hstr' d2 ?_
  intro T2 hT2 X2
  have hcell : T2.heap[T.heap.size]? = some (freshCell cX kX) := by rw [hT2]; simp
  obtain ⟨U, st, hrun, hend, hW, hsame, ce, hce1, hce2⟩ := X2.ctorThrowS C'.1.1 (Launch.traces_off hfl X0.admits) (names := zk_nm) (cls := X) (ic := ic) C'.1.2.2.2.1 hfit (by decide +kernel) hB (fun x hx => by cases hx) f1 f2 hcell (Nat.le_refl _) (msg := .ref str) rfl (g := F0 m (pc + 6) ls [.ref str, .ref T.heap.size, .ref T.heap.size]) rfl (hsz.trans C'.1.2.2.1.symm) rfl rfl (rest := []) rfl (by rw [C'.1.2.1]; exact d3) (by rw [C'.1.2.1]; exact d4)
    (fun x hx => by rw [Array.isEmpty_iff] at hnoh; rw [hnoh] at hx; cases hx) (by show 2 + 3 < R.frames; omega) (by have := lv_room (m := m) (pc := pc + 6) (ls := ls) (rest := [.ref str, .ref T.heap.size, .ref T.heap.size]) (st := [.ref T.heap.size]) (Nat.le_of_ble_eq_true rfl); show _ + (13 * (2 + 1) + 42) ≤ R.locals; omega) hlocks
  refine ⟨U, st, .threw T.heap.size, hrun, hend, ⟨⟨T.heap.size, ce, w, rfl, hce1, ?_, hce2.vm, hq, ?_, Z.2.1⟩, ?_, ?_⟩, locs, ⟨⟨_, rfl⟩, State.WarmedH.trans X0.warmed hW, ?_⟩, Z.2.2.2.2⟩
  · rw [hW.alike.findClass]; exact hce2.cls
  · refine Z.1.kept (fun k q hk => ?_)
    have h1 : q.1 < T.heap.size := by rw [hT]; exact (Z.1 k q hk).lt
    rw [zk_keep hsame h1]
    show T.heap[q.1]? = H[q.1]?
    rw [hT]
  · have h1 : T.heap.size ≤ U.heap.size := hsame.2.1
    have h2 := Z.2.2.1
    rw [hT] at h1; omega
  · intro q h1 h2
    have h3 : q < T.heap.size := by rw [hT]; exact Nat.lt_of_lt_of_le h1 Z.2.2.1
    rw [zk_keep hsame h3]
    show T.heap[q]? = s.heap[q]?
    rw [hT]; exact Z.2.2.2.1 q h1 h2
  · have k1 := X0.same.trans (u := ({ U with vm := s.vm } : State)) (l2 := []) (c2 := 0 + 1) (n2 := 0 + 6) ?_
    · rw [List.append_nil] at k1
      exact k1.mono (by omega) (by omega)
    · obtain ⟨q1, q2, q3, q4, q5, q6⟩ := hsame
      refine ⟨?_, q2, q3, q4, q5, q6⟩
      have e1 : ({ U with vm := s.vm } : State) = ({ U with vm := (zk_now s T).vm } : State).setVm s.vm := rfl
      rw [q1] at e1
      have e2 : T.setVm s.vm = { s.setFrames T.frames with heap := T.heap, slotsUsed := T.slotsUsed } := X0.same.1
      have e3 : ({ s.setFrames T.frames with heap := T.heap, slotsUsed := T.slotsUsed } : State).setFrames U.frames = { s.setFrames U.frames with heap := T.heap, slotsUsed := T.slotsUsed } := by
        show ({ (s.setFrames T.frames).setFrames U.frames with heap := T.heap, slotsUsed := T.slotsUsed } : State) = _
        rw [State.setFrames_setFrames]
      refine e1.trans ?_
      show _ = ({ (T.setVm s.vm).setFrames U.frames with heap := U.heap, slotsUsed := U.slotsUsed } : State)
      rw [e2, e3]
      rfl
end
