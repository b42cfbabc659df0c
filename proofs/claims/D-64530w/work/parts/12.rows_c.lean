/-! ===== OWN ROWS, third part: copies, new cells, arrays of references ===== -/
set_option maxRecDepth 100000
theorem zk_cpy_full {n : Nat} {L0 L1 : List Nat} (h0 : L0.length = n) (h1 : L1.length = n) : va_cpy (zk_ia L0) (zk_ia L1) 0 0 n = zk_ia L0 := by
  funext k
  simp only [va_cpy, zk_ia]
  by_cases h : k < n
  · rw [if_pos ⟨Nat.zero_le _, by omega⟩]; simp
  · rw [if_neg (by omega)]
    simp only [List.getD_eq_getElem?_getD]
    rw [List.getElem?_eq_none (by omega), List.getElem?_eq_none (by omega)]
theorem zk_ia_0 (n : Nat) : zk_ia (List.replicate n 0) = fun _ => 0 := by
  funext j
  simp only [zk_ia, List.getD_eq_getElem?_getD, List.getElem?_replicate]
  split <;> exact nI_0
/-- an array of references, by the list of their addresses -/
def zk_ra (l : List Nat) : Nat → Option Nat := fun j => l[j]?
theorem zk_ra_set (l : List Nat) (i v : Nat) (h : i < l.length) : va_up (zk_ra l) i (some v) = zk_ra (l.set i v) := by
  funext j
  simp only [va_up, zk_ra]
  by_cases e : j = i
  · subst e; simp [h]
  · rw [if_neg e, List.getElem?_set_ne (Ne.symm e)]
theorem zk_K_int {D : va_G} {g : G4} {s : State} {cA : ClassId} (hK : va_K D nc (tyl g) s) (h : va_K D nc (tyl g ++ [(cA, .int)]) s) : cA = g.1 := by
  have h1 : s.vm.findClass ("[" ++ FieldType.int.toString) = some g.1 := (hK.2 0 _ rfl).2
  have h2 : s.vm.findClass ("[" ++ FieldType.int.toString) = some cA := (h.2 4 _ rfl).2
  exact Option.some.inj (h2.symm.trans h1)
theorem zk_K_long {D : va_G} {g : G4} {s : State} {cA : ClassId} (hK : va_K D nc (tyl g) s) (h : va_K D nc (tyl g ++ [(cA, .long)]) s) : cA = g.2.1 := by
  have h1 : s.vm.findClass ("[" ++ FieldType.long.toString) = some g.2.1 := (hK.2 1 _ rfl).2
  have h2 : s.vm.findClass ("[" ++ FieldType.long.toString) = some cA := (h.2 4 _ rfl).2
  exact Option.some.inj (h2.symm.trans h1)
theorem zk_K_way {D : va_G} {g : G4} {s : State} {cA : ClassId} (hK : va_K D nc (tyl g) s) (h : va_K D nc (tyl g ++ [(cA, .object "NoisyCodes$Way")]) s) : cA = g.2.2.2 := by
  obtain ⟨-, -, -, -, -, h1⟩ : va_RA s g.2.2.2 (.object "NoisyCodes$Way") := (hK.2 3 _ rfl).2
  obtain ⟨-, -, -, -, -, h2⟩ : va_RA s cA (.object "NoisyCodes$Way") := (h.2 4 _ rfl).2
  exact Option.some.inj (h2.symm.trans h1)
section
variable {p : Program} {l : Launch} {e : Env} {R : Room} {s : State} {m : MethodId} {args : Array Value} {below : List Frame} {meth : Method} {c : Code} {H : Heap} {locs : List Loc} {cells slots : Nat} {Q : State → Prop}
variable {cc : ByteArray} {pc : Nat} {ls : Array Slot} {rest : List Value} {D : va_G} {g : G4} {A : Nat → Prop} {own : String} {nL : Nat} {w : va_W}
theorem zk_copy (C : zk_C p s m c args cc nL own D g A) (Z : zk_Z D A s H locs w) {index : Nat} (hlink : Cond.methodLink own index arraycopyName ∈ lw_all) (q0 q1 : Nat) {a0 a1 n : Nat} {L0 L1 : List Nat} (ha0 : w[q0]? = some (a0, .inl (g.1, n, .inl (zk_ia L0)))) (ha1 : w[q1]? = some (a1, .inl (g.1, n, .inl (zk_ia L1)))) (h0 : L0.length = n) (h1 : L1.length = n) (hn : n < 2 ^ 31) (hsz : ls.size = nL)
    (hframes : 1 ≤ R.frames) (hlocals : (rest.map fun v => v.category).sum + (nativeFrameWords "java/lang/System" "arraycopy" 5 + 11) ≤ R.locals) (hdg : decode cc pc = .ok (.invokestatic index, 3))
    (kk : ∀ (H : Heap) (locs : List Loc), zk_Z D A s H locs (w.set q1 (a1, .inl (g.1, n, .inl (zk_ia L0)))) → W p l e R s m args below meth c H locs cells slots Q (F0 m (pc + 3) ls rest)) : W p l e R s m args below meth c H locs cells slots Q (F0 m pc ls (.int (nI n) :: .int (nI 0) :: .ref a1 :: .int (nI 0) :: .ref a0 :: rest)) := by
  have hc : (nI n).toNatClampNeg = n := nI_clamp hn
  have hz : (nI 0).toNatClampNeg = 0 := rfl
  refine va_copyi (ty := .int) C.1.1 C.1.2.1 (C.1.2.2.1.trans hsz.symm) C.1.2.2.2.1 (C.1.2.2.2.2 _ hlink) (C.1.2.2.2.2 _ q565) (C.1.2.2.2.2 _ q564) (C.1.2.2.2.2 _ q37) C.2.1 Z.1 Z.2.1 Z.2.2 q0 q1 0 0 ha0 ha1 rfl rfl rfl (by decide) (by decide) (nI_pos hn) (by rw [hz, hc]; omega) (by rw [hz, hc]; omega) (fun _ _ => rfl) hframes hlocals hdg (fun H1 locs1 hP hD hS => ?_)
  rw [hz, hc, zk_cpy_full h0 h1] at hP hD
  exact kk H1 locs1 ⟨hP, hD, hS⟩
theorem zk_newi (C : zk_C p s m c args cc nL own D g A) (Z : zk_Z D A s H locs w) {N : Nat} (hN : N < 1000) (hcells : cells + 1 ≤ R.cells) (hslots : slots + N ≤ R.slots) (hdg : decode cc pc = .ok (.newarray .int, 2))
    (kk : ∀ (q : Nat) (H : Heap), zk_Z D A s H locs (w ++ [(q, .inl (g.1, N, .inl (zk_ia (List.replicate N 0))))]) → W p l e R s m args below meth c H locs (cells + 1) (slots + N) Q (F0 m (pc + 2) ls (.ref q :: rest))) : W p l e R s m args below meth c H locs cells slots Q (F0 m pc ls (.int (nI N) :: rest)) := by
  refine va_newa (atype := .int) (ty := .int) (N' := N) (a0 := (N, .inl (fun _ => 0))) C.1.1 C.1.2.1 (C.1.2.2.2.2 _ q76) rfl C.2.1 Z.1 Z.2.1 Z.2.2 C.2.2.1 (fun _ => rfl) (nI_pos (by omega)) (nI_clamp (by omega)) (by show N * 4 ≤ _; omega) hcells hslots hdg (fun q cA H1 hK hP hD hS => ?_)
  have e := zk_K_int C.2.1 hK
  subst e
  rw [← zk_ia_0 N] at hP hD
  exact kk q H1 ⟨hP, hD, hS⟩
theorem zk_newl (C : zk_C p s m c args cc nL own D g A) (Z : zk_Z D A s H locs w) {N : Nat} (hN : N < 1000) (hcells : cells + 1 ≤ R.cells) (hslots : slots + N ≤ R.slots) (hdg : decode cc pc = .ok (.newarray .long, 2))
    (kk : ∀ (q : Nat) (H : Heap), zk_Z D A s H locs (w ++ [(q, .inl (g.2.1, N, .inr (.inl (fun _ => 0))))]) → W p l e R s m args below meth c H locs (cells + 1) (slots + N) Q (F0 m (pc + 2) ls (.ref q :: rest))) : W p l e R s m args below meth c H locs cells slots Q (F0 m pc ls (.int (nI N) :: rest)) := by
  refine va_newa (atype := .long) (ty := .long) (N' := N) (a0 := (N, .inr (.inl (fun _ => 0)))) C.1.1 C.1.2.1 (C.1.2.2.2.2 _ q764) rfl C.2.1 Z.1 Z.2.1 Z.2.2 C.2.2.1 (fun _ => rfl) (nI_pos (by omega)) (nI_clamp (by omega)) (by show N * 8 ≤ _; omega) hcells hslots hdg (fun q cA H1 hK hP hD hS => ?_)
  have e := zk_K_long C.2.1 hK
  subst e
  exact kk q H1 ⟨hP, hD, hS⟩
theorem zk_new (C : zk_C p s m c args cc nL own D g A) (Z : zk_Z D A s H locs w) {Cn : String} {T : u_T} {N ci index : Nat} (hin : ∀ x ∈ u_ws Cn T N, x ∈ lw_all) (ty : Nat → FieldType) (hty : ∀ k, k < N → parseFieldDescriptor (T k).2.2.1 = some (ty k)) (hcl : Cond.classLink own index Cn ∈ lw_all) (hinst : Cond.instantiable Cn N ∈ lw_all) (hini : Cond.initialized Cn ∈ lw_all) (hc : nc[ci]? = some (Cn, T, N)) {fs : List Value} (hfs : ∀ j, j < N → defaultValue (ty j) = vp_V fs j) (hcells : cells + 1 ≤ R.cells) (hslots : slots + N ≤ R.slots) (hdg : decode cc pc = .ok (.new index, 3))
    (kk : ∀ (q : Nat) (H : Heap), zk_Z D A s H locs (w ++ [(q, .inr (ci, fs))]) → W p l e R s m args below meth c H locs (cells + 1) (slots + N) Q (F0 m (pc + 3) ls (.ref q :: rest))) : W p l e R s m args below meth c H locs cells slots Q (F0 m pc ls rest) :=
  va_new C.1.1 C.1.2.1 C.1.2.2.2.2 hin ty hty C.1.2.2.2.1 (C.1.2.2.2.2 _ hcl) (C.1.2.2.2.2 _ hinst) (C.1.2.2.2.2 _ hini) C.2.1 Z.1 Z.2.1 Z.2.2 C.2.2.1 hc hfs hcells hslots hdg (fun q H1 hP hD hS => kk q H1 ⟨hP, hD, hS⟩)
/-- a row of int[][] -/
theorem zk_aald (C : zk_C p s m c args cc nL own D g A) (Z : zk_Z D A s H locs w) (q0 : Nat) {a n : Nat} {L : List Nat} (ha : w[q0]? = some (a, .inl (g.2.2.1, n, .inr (.inr (.inr (.inr (zk_ra L))))))) {i v : Nat} (hn : n < 2 ^ 31) (hi : i < n) (hv : L[i]? = some v) (hdg : decode cc pc = .ok (.aaload, 1))
    (kk : W p l e R s m args below meth c H locs cells slots Q (F0 m (pc + 1) ls (.ref v :: rest))) : W p l e R s m args below meth c H locs cells slots Q (F0 m pc ls (.int (nI i) :: .ref a :: rest)) := by
  have hlt : (nI i).toNatClampNeg < n := by rw [nI_clamp (by omega)]; exact hi
  refine W.aald (v := .ref v) (ty := .array .int) C.1.1 C.1.2.1 (Z.1 q0 _ ha) ((C.2.1.2 2 _ rfl).1 n (fun j => va_rf (zk_ra L j))) rfl (fun q => by cases q) (by show ¬ (nI i < 0 ∨ (arrV _ _ _).slots.size ≤ _); rw [arrV_size]; exact vp_in_nI hi hn) ?_ rfl rfl hdg kk
  show (arrV _ _ _).slots[_]? = _
  rw [arrV_read _ _ hlt, nI_clamp (by omega)]
  show some (va_rf (zk_ra L i)) = _
  rw [zk_ra, hv]
  rfl
/-- a row is put into int[][] -/
theorem zk_aast (C : zk_C p s m c args cc nL own D g A) (Z : zk_Z D A s H locs w) (q0 q1 : Nat) {a n v n1 : Nat} {L : List Nat} {f1 : Nat → Int32} (ha : w[q0]? = some (a, .inl (g.2.2.1, n, .inr (.inr (.inr (.inr (zk_ra L))))))) (hv : w[q1]? = some (v, .inl (g.1, n1, .inl f1))) {i : Nat} (hn : n < 2 ^ 31) (hi : i < n) (hL : L.length = n) (hdg : decode cc pc = .ok (.aastore, 1))
    (kk : ∀ (H : Heap) (locs : List Loc), zk_Z D A s H locs (w.set q0 (a, .inl (g.2.2.1, n, .inr (.inr (.inr (.inr (zk_ra (L.set i v)))))))) → W p l e R s m args below meth c H locs cells slots Q (F0 m (pc + 1) ls rest)) : W p l e R s m args below meth c H locs cells slots Q (F0 m pc ls (.ref v :: .int (nI i) :: .ref a :: rest)) := by
  have hc : (nI i).toNatClampNeg = i := nI_clamp (by omega)
  obtain ⟨comp, cA, kA, hcomp, -, hkA, hkindA, hnameA⟩ := arrayOverA_spec C.2.2.2.2.2.2.2.1
  have hg3 : s.vm.findClass ("[" ++ (FieldType.array .int).toString) = some g.2.2.1 := (C.2.1.2 2 _ rfl).2
  cases Option.some.inj (hnameA.symm.trans hg3)
  have hg1 : s.vm.findClass ("[" ++ FieldType.int.toString) = some g.1 := (C.2.1.2 0 _ rfl).2
  have hcg : comp = g.1 := Option.some.inj (hcomp.symm.trans hg1)
  subst hcg
  obtain ⟨kC, hkC, -⟩ := Vm.findClass_spec hcomp
  have hself : s.vm.assignable g.1 g.1 = true := va_asg _ _
  refine W.aast C.1.1 C.1.2.1 (Z.1 q0 _ ha) (fun q => by rintro ⟨⟩) (fun q => by cases q) hkA hkindA rfl hkC (by rw [hc]; refine ⟨nI_pos (by omega), ?_⟩; show i < (arrV _ _ _).slots.size; rw [arrV_size]; exact hi) (Z.1 q1 _ hv) (fun q => by rintro ⟨⟩) hkC hself rfl rfl hdg (fun H1 e1 z oq => ?_)
  have hs : zk_Z D A s H1 (locs ++ [⟨a, (nI i).toNatClampNeg⟩]) (w.set q0 (a, .inl (g.2.2.1, n, .inr (.inr (.inr (.inr (zk_ra (L.set i v)))))))) := by
    refine ⟨Z.1.set Z.2.1 ha ?_ oq, Z.2.1.set ha, Z.2.2.put z oq (Z.2.1.2 q0 _ ha)⟩
    show H1[a]? = some _
    rw [e1, hc, ← zk_ra_set L i v (by omega), vp_cell_q, vp_cell_q, arrV_store]
    congr 2
    funext q
    by_cases hq : q = i
    · subst hq
      simp [updV, va_up, va_rf]
    · simp [updV, va_up, hq]
  exact kk H1 _ hs
end
