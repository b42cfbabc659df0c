/-! ===== PURE: Equations ===== -/
set_option maxRecDepth 100000
def mg (M : List (List Nat)) (i j : Nat) : Nat := (M.getD i []).getD j 0
def mset (M : List (List Nat)) (i j v : Nat) : List (List Nat) := M.set i ((M.getD i []).set j v)
def zk_ml (M : List (List Nat)) : Prop := M.length = 3 ∧ ∀ i, i < 3 → (M.getD i []).length = 4
def zk_bm (n v : Nat) (M : List (List Nat)) : Prop := ∀ i j, i < v → j ≤ v → mg M i j ≤ n
theorem zk_gsL (l : List (List Nat)) (i j : Nat) (v : List Nat) : (l.set i v).getD j [] = if i = j ∧ j < l.length then v else l.getD j [] := by
  simp only [List.getD_eq_getElem?_getD, List.getElem?_set]
  by_cases e : i = j
  · subst e
    by_cases q : i < l.length
    · simp [q]
    · simp [q]
  · simp [e]
theorem zk_ml_set {M : List (List Nat)} {i j v : Nat} (h : zk_ml M) : zk_ml (mset M i j v) := by
  refine ⟨by rw [mset, List.length_set]; exact h.1, fun a ha => ?_⟩
  rw [mset, zk_gsL]
  split
  · next q => rw [List.length_set, q.1]; exact h.2 a ha
  · exact h.2 a ha
theorem mg_set {M : List (List Nat)} (h : zk_ml M) {i j : Nat} (hi : i < 3) (hj : j < 4) (v a b : Nat) : mg (mset M i j v) a b = if i = a ∧ j = b then v else mg M a b := by
  unfold mg mset
  rw [zk_gsL]
  by_cases e : i = a
  · subst e
    rw [if_pos ⟨rfl, by rw [h.1]; exact hi⟩, zk_gs]
    by_cases e2 : j = b
    · subst e2; rw [if_pos ⟨rfl, by rw [h.2 i hi]; exact hj⟩, if_pos ⟨rfl, rfl⟩]
    · rw [if_neg (fun q => e2 q.1), if_neg (fun q => e2 q.2)]
  · rw [if_neg (fun q => e q.1), if_neg (fun q => e q.1)]
theorem mset_or {M : List (List Nat)} {i j v a b : Nat} : mg (mset M i j v) a b = v ∨ mg (mset M i j v) a b = mg M a b ∨ mg (mset M i j v) a b = 0 := by
  unfold mg mset
  rw [zk_gsL]
  split
  · next q =>
    rw [zk_gs]
    split
    · exact Or.inl rfl
    · rw [q.1]; exact Or.inr (Or.inl rfl)
  · exact Or.inr (Or.inl rfl)
theorem zk_bm_set {n u : Nat} {M : List (List Nat)} {i j v : Nat} (hb : zk_bm n u M) (hv : v ≤ n) : zk_bm n u (mset M i j v) := by
  intro a b ha hb2
  rcases mset_or (M := M) (i := i) (j := j) (v := v) (a := a) (b := b) with h | h | h <;> rw [h]
  · exact hv
  · exact hb a b ha hb2
  · exact Nat.zero_le _
def zk_sw (M : List (List Nat)) (k q : Nat) : List (List Nat) := (M.set k (M.getD q [])).set q (M.getD k [])
theorem zk_3 {M : List (List Nat)} (h : M.length = 3) : ∃ a b c, M = [a, b, c] := by
  match M, h with
  | [a, b, c], _ => exact ⟨a, b, c, rfl⟩
theorem zk_i3 {i : Nat} (h : i < 3) : i = 0 ∨ i = 1 ∨ i = 2 := by omega
theorem zk_sw_g {M : List (List Nat)} (h : M.length = 3) {k q : Nat} (hk : k < 3) (hq : q < 3) (a : Nat) : (zk_sw M k q).getD a [] = if a = q then M.getD k [] else if a = k then M.getD q [] else M.getD a [] := by
  unfold zk_sw
  rw [zk_gsL, zk_gsL, List.length_set, h]
  by_cases e1 : q = a
  · subst e1; rw [if_pos ⟨rfl, hq⟩, if_pos rfl]
  · rw [if_neg (fun z => e1 z.1), if_neg (Ne.symm e1)]
    by_cases e2 : k = a
    · subst e2; rw [if_pos ⟨rfl, hk⟩, if_pos rfl]
    · rw [if_neg (fun z => e2 z.1), if_neg (Ne.symm e2)]
theorem zk_ml_sw {M : List (List Nat)} {k q : Nat} (h : zk_ml M) (hk : k < 3) (hq : q < 3) : zk_ml (zk_sw M k q) := by
  refine ⟨by rw [zk_sw, List.length_set, List.length_set]; exact h.1, fun a ha => ?_⟩
  rw [zk_sw_g h.1 hk hq]
  split
  · exact h.2 k hk
  · split
    · exact h.2 q hq
    · exact h.2 a ha
theorem mg_sw {M : List (List Nat)} (h : zk_ml M) {k q : Nat} (hk : k < 3) (hq : q < 3) (a b : Nat) : mg (zk_sw M k q) a b = if a = q then mg M k b else if a = k then mg M q b else mg M a b := by
  unfold mg
  rw [zk_sw_g h.1 hk hq]
  split
  · rfl
  · split <;> rfl
theorem zk_bm_sw {n v : Nat} {M : List (List Nat)} {k q : Nat} (h : zk_ml M) (hv : v ≤ 3) (hk : k < v) (hq : q < v) (hb : zk_bm n v M) : zk_bm n v (zk_sw M k q) := by
  intro a b h1 h2
  rw [mg_sw h (by omega) (by omega)]
  split
  · exact hb _ _ hk h2
  · split
    · exact hb _ _ hq h2
    · exact hb _ _ h1 h2
/-- the equations are laid: a row, all rows -/
def efF (S : List Nat) (i j : Nat) (M : List (List Nat)) : List (List Nat) := mset M i j (S.getD (i + j + 1) 0)
noncomputable def efR (S : List Nat) (v i : Nat) (M : List (List Nat)) : List (List Nat) := zk_it (efF S i) (v + 1) 0 M
noncomputable def eqfill (S : List Nat) (v : Nat) (M : List (List Nat)) : List (List Nat) := zk_it (efR S v) v 0 M
/-- a row is made 1 at its place -/
def ecF (p k by_ j : Nat) (M : List (List Nat)) : List (List Nat) := mset M k j (gd p (mg M k j) by_)
noncomputable def ec1 (p k v : Nat) (M : List (List Nat)) : List (List Nat) := zk_it (ecF p k (mg M k k)) (v + 1 - k) k M
/-- another row is made 0 there -/
def eiF (p k i tm j : Nat) (M : List (List Nat)) : List (List Nat) := mset M i j (mg M i j ^^^ gm p tm (mg M k j))
noncomputable def ei (p k v i : Nat) (M : List (List Nat)) : List (List Nat) := if i = k then M else zk_it (eiF p k i (mg M i k)) (v + 1 - k) k M
noncomputable def eqclear (p k v : Nat) (M : List (List Nat)) : List (List Nat) := zk_it (ei p k v) v 0 (ec1 p k v M)
/-- the first row from q on that isn't 0 in column k -/
noncomputable def epv (M : List (List Nat)) (k f q : Nat) : Nat := Nat.rec (motive := fun _ => Nat → Nat) (fun q => q) (fun _ ih q => if mg M q k = 0 then ih (q + 1) else q) f q
theorem epv_s0 {M : List (List Nat)} {k f q : Nat} (h : mg M q k = 0) : epv M k (f + 1) q = epv M k f (q + 1) := by show (if mg M q k = 0 then _ else _) = _; rw [if_pos h]; rfl
theorem epv_s1 {M : List (List Nat)} {k f q : Nat} (h : mg M q k ≠ 0) : epv M k (f + 1) q = q := by show (if mg M q k = 0 then _ else _) = _; rw [if_neg h]
noncomputable def esl (p v r k : Nat) (M : List (List Nat)) : Bool × List (List Nat) := Nat.rec (motive := fun _ => Nat → List (List Nat) → Bool × List (List Nat)) (fun _ M => (true, M)) (fun _ ih k M => if epv M k (v - k) k = v then (false, M) else ih (k + 1) (eqclear p k v (zk_sw M k (epv M k (v - k) k)))) r k M
theorem esl_s0 {p v r k : Nat} {M : List (List Nat)} (h : epv M k (v - k) k = v) : esl p v (r + 1) k M = (false, M) := by show (if epv M k (v - k) k = v then _ else _) = _; rw [if_pos h]
theorem esl_s1 {p v r k : Nat} {M : List (List Nat)} (h : epv M k (v - k) k ≠ v) : esl p v (r + 1) k M = esl p v r (k + 1) (eqclear p k v (zk_sw M k (epv M k (v - k) k))) := by show (if epv M k (v - k) k = v then _ else _) = _; rw [if_neg h]; rfl
noncomputable def eqsolve (p v : Nat) (S : List Nat) (M : List (List Nat)) : Bool × List (List Nat) := esl p v v 0 (eqfill S v M)
noncomputable def eqv (p : Nat) (S : List Nat) (v : Nat) (M : List (List Nat)) : Nat × List (List Nat) := Nat.rec (motive := fun _ => List (List Nat) → Nat × List (List Nat)) (fun M => (0, M)) (fun v ih M => if (eqsolve p (v + 1) S M).1 = true then (v + 1, (eqsolve p (v + 1) S M).2) else ih (eqsolve p (v + 1) S M).2) v M
theorem eqv_s1 {p v : Nat} {S : List Nat} {M : List (List Nat)} (h : (eqsolve p (v + 1) S M).1 = true) : eqv p S (v + 1) M = (v + 1, (eqsolve p (v + 1) S M).2) := by show (if (eqsolve p (v + 1) S M).1 = true then _ else _) = _; rw [if_pos h]
theorem eqv_s0 {p v : Nat} {S : List Nat} {M : List (List Nat)} (h : ¬ (eqsolve p (v + 1) S M).1 = true) : eqv p S (v + 1) M = eqv p S v (eqsolve p (v + 1) S M).2 := by show (if (eqsolve p (v + 1) S M).1 = true then _ else _) = _; rw [if_neg h]; rfl
def egF (v : Nat) (M : List (List Nat)) (i : Nat) (c : List Nat) : List Nat := c.set (v - i) (mg M i v)
/-- Equations.find, from rows M -/
noncomputable def equa (p t : Nat) (S : List Nat) (M : List (List Nat)) : List Nat := zk_it (egF (eqv p S t M).1 (eqv p S t M).2) (eqv p S t M).1 0 (([0, 0, 0, 0, 0, 0, 0, 0] : List Nat).set 0 1)
/-- the rows in the world -/
abbrev zk_row (cI : ClassId) (a : Nat) (r : List Nat) : Nat × va_E := (a, .inl (cI, 4, .inl (zk_ia r)))
theorem zk_g3 {r0 r1 r2 i : Nat} (h : i < 3) : ([r0, r1, r2] : List Nat)[i]? = some (([r0, r1, r2] : List Nat).getD i 0) := by
  rcases zk_i3 h with rfl | rfl | rfl <;> rfl
theorem zk_rd3 {X Y : Nat × va_E} {suf : va_W} {cI : ClassId} {r0 r1 r2 i : Nat} {M : List (List Nat)} (h : i < 3) : (X :: Y :: zk_row cI r0 (M.getD 0 []) :: zk_row cI r1 (M.getD 1 []) :: zk_row cI r2 (M.getD 2 []) :: suf)[2 + i]? = some (([r0, r1, r2] : List Nat).getD i 0, .inl (cI, 4, .inl (zk_ia (M.getD i [])))) := by
  rcases zk_i3 h with rfl | rfl | rfl <;> rfl
theorem zk_st3 {X Y : Nat × va_E} {suf : va_W} {cI : ClassId} {r0 r1 r2 i : Nat} {M : List (List Nat)} {R : List Nat} (hM : M.length = 3) (h : i < 3) : (X :: Y :: zk_row cI r0 (M.getD 0 []) :: zk_row cI r1 (M.getD 1 []) :: zk_row cI r2 (M.getD 2 []) :: suf).set (2 + i) (([r0, r1, r2] : List Nat).getD i 0, .inl (cI, 4, .inl (zk_ia R))) = X :: Y :: zk_row cI r0 ((M.set i R).getD 0 []) :: zk_row cI r1 ((M.set i R).getD 1 []) :: zk_row cI r2 ((M.set i R).getD 2 []) :: suf := by
  obtain ⟨a, b, c, rfl⟩ := zk_3 hM
  rcases zk_i3 h with rfl | rfl | rfl <;> rfl
theorem zk_swZ {D : va_G} {g : G4} {A : Nat → Prop} {s : State} {H : Heap} {locs : List Loc} {X x1 x2 x3 x4 : Nat × va_E} {hr r0 r1 r2 k q : Nat} {M : List (List Nat)} (hM : M.length = 3) (hk : k < 3) (hq : q < 3)
    (Z : zk_Z D A s H locs [X, (hr, .inl (g.2.2.1, 3, .inr (.inr (.inr (.inr (zk_ra ((([r0, r1, r2] : List Nat).set k (([r0, r1, r2] : List Nat).getD q 0)).set q (([r0, r1, r2] : List Nat).getD k 0)))))))), zk_row g.1 r0 (M.getD 0 []), zk_row g.1 r1 (M.getD 1 []), zk_row g.1 r2 (M.getD 2 []), x1, x2, x3, x4]) :
    ∃ s0 s1 s2, zk_Z D A s H locs [X, (hr, .inl (g.2.2.1, 3, .inr (.inr (.inr (.inr (zk_ra [s0, s1, s2])))))), zk_row g.1 s0 ((zk_sw M k q).getD 0 []), zk_row g.1 s1 ((zk_sw M k q).getD 1 []), zk_row g.1 s2 ((zk_sw M k q).getD 2 []), x1, x2, x3, x4] := by
  obtain ⟨a, b, c, rfl⟩ := zk_3 hM
  rcases zk_i3 hk with rfl | rfl | rfl <;> rcases zk_i3 hq with rfl | rfl | rfl
  · exact ⟨r0, r1, r2, Z⟩
  · exact ⟨r1, r0, r2, Z.sub [0, 1, 3, 2, 4, 5, 6, 7, 8] (by decide) rfl⟩
  · exact ⟨r2, r1, r0, Z.sub [0, 1, 4, 3, 2, 5, 6, 7, 8] (by decide) rfl⟩
  · exact ⟨r1, r0, r2, Z.sub [0, 1, 3, 2, 4, 5, 6, 7, 8] (by decide) rfl⟩
  · exact ⟨r0, r1, r2, Z⟩
  · exact ⟨r0, r2, r1, Z.sub [0, 1, 2, 4, 3, 5, 6, 7, 8] (by decide) rfl⟩
  · exact ⟨r2, r1, r0, Z.sub [0, 1, 4, 3, 2, 5, 6, 7, 8] (by decide) rfl⟩
  · exact ⟨r0, r2, r1, Z.sub [0, 1, 2, 4, 3, 5, 6, 7, 8] (by decide) rfl⟩
  · exact ⟨r0, r1, r2, Z⟩
theorem zk_it2 {n v : Nat} {f : Nat → List (List Nat) → List (List Nat)} : ∀ (k i : Nat) (M : List (List Nat)), (∀ j M, i ≤ j → j < i + k → zk_ml M ∧ zk_bm n v M → zk_ml (f j M) ∧ zk_bm n v (f j M)) → zk_ml M ∧ zk_bm n v M → zk_ml (zk_it f k i M) ∧ zk_bm n v (zk_it f k i M) := by
  intro k
  induction k with
  | zero => intro i M h q; exact q
  | succ k ih => intro i M h q; rw [zk_it_s]; exact ih _ _ (fun j M h1 h2 h3 => h j M (by omega) (by omega) h3) (h _ _ (Nat.le_refl _) (by omega) q)
theorem efR_g {S : List Nat} {v i : Nat} (hv : v ≤ 3) (hi : i < v) : ∀ (k j : Nat) (M : List (List Nat)), j + k = v + 1 → zk_ml M → zk_ml (zk_it (efF S i) k j M) ∧ ∀ a b, mg (zk_it (efF S i) k j M) a b = if a = i ∧ j ≤ b ∧ b ≤ v then S.getD (i + b + 1) 0 else mg M a b := by
  intro k
  induction k with
  | zero =>
    intro j M hk hM
    refine ⟨hM, fun a b => ?_⟩
    rw [zk_it_0, if_neg (by omega)]
  | succ k ih =>
    intro j M hk hM
    rw [zk_it_s]
    obtain ⟨h1, h2⟩ := ih (j + 1) (efF S i j M) (by omega) (zk_ml_set hM)
    refine ⟨h1, fun a b => ?_⟩
    rw [h2, efF, mg_set hM (by omega) (by omega)]
    by_cases e : i = a ∧ j = b
    · obtain ⟨rfl, rfl⟩ := e
      rw [if_neg (by omega), if_pos ⟨rfl, rfl⟩, if_pos ⟨rfl, by omega, by omega⟩]
    · rw [if_neg e]
      by_cases h3 : a = i ∧ j + 1 ≤ b ∧ b ≤ v
      · rw [if_pos h3, if_pos ⟨h3.1, by omega, h3.2.2⟩]
      · rw [if_neg h3, if_neg (fun z => by
          rcases Nat.lt_or_ge j b with q | q
          · exact h3 ⟨z.1, by omega, z.2.2⟩
          · exact e ⟨z.1.symm, by omega⟩)]
theorem eqfill_g {S : List Nat} {v : Nat} (hv : v ≤ 3) : ∀ (k i : Nat) (M : List (List Nat)), i + k = v → zk_ml M → zk_ml (zk_it (efR S v) k i M) ∧ ∀ a b, mg (zk_it (efR S v) k i M) a b = if i ≤ a ∧ a < v ∧ b ≤ v then S.getD (a + b + 1) 0 else mg M a b := by
  intro k
  induction k with
  | zero =>
    intro i M hk hM
    refine ⟨hM, fun a b => ?_⟩
    rw [zk_it_0, if_neg (by omega)]
  | succ k ih =>
    intro i M hk hM
    rw [zk_it_s]
    obtain ⟨g1, g2⟩ := efR_g (S := S) hv (show i < v by omega) (v + 1) 0 M (by omega) hM
    obtain ⟨h1, h2⟩ := ih (i + 1) (efR S v i M) (by omega) g1
    refine ⟨h1, fun a b => ?_⟩
    rw [h2]
    by_cases e : a = i
    · subst e
      rw [if_neg (by omega)]
      show mg (zk_it (efF S a) (v + 1) 0 M) a b = _
      rw [g2]
      by_cases h3 : b ≤ v
      · rw [if_pos ⟨rfl, by omega, h3⟩, if_pos ⟨by omega, by omega, h3⟩]
      · rw [if_neg (by omega), if_neg (by omega)]
    · by_cases h3 : i + 1 ≤ a ∧ a < v ∧ b ≤ v
      · rw [if_pos h3, if_pos ⟨by omega, h3.2⟩]
      · rw [if_neg h3]
        show mg (zk_it (efF S i) (v + 1) 0 M) a b = _
        rw [g2, if_neg (fun z => e z.1), if_neg (by omega)]
theorem eqfill_ok {n v : Nat} {S : List Nat} {M : List (List Nat)} (bS : zk_bs n v S) (hv : v ≤ 3) (h : zk_ml M) : zk_ml (eqfill S v M) ∧ zk_bm n v (eqfill S v M) := by
  obtain ⟨h1, h2⟩ := eqfill_g (S := S) hv v 0 M (by omega) h
  refine ⟨h1, fun a b ha hb => ?_⟩
  show mg (zk_it (efR S v) v 0 M) a b ≤ n
  rw [h2, if_pos ⟨Nat.zero_le _, ha, hb⟩]
  exact bS _ (by omega)
theorem ec1_ok {p n k v : Nat} {P L : List Nat} {M : List (List Nat)} (F : zk_F p n P L) (hkv : k < v) (hk : mg M k k ≠ 0) (h : zk_ml M ∧ zk_bm n v M) : zk_ml (ec1 p k v M) ∧ zk_bm n v (ec1 p k v M) :=
  zk_it2 _ _ _ (fun j M1 h1 h2 q => ⟨zk_ml_set q.1, zk_bm_set q.2 (F.gdl (q.2 _ _ hkv (by omega)) (h.2 k k hkv (by omega)) hk)⟩) h
theorem ei_ok {p n k v i : Nat} {P L : List Nat} {M : List (List Nat)} (F : zk_F p n P L) (hkv : k < v) (hi : i < v) (h : zk_ml M ∧ zk_bm n v M) : zk_ml (ei p k v i M) ∧ zk_bm n v (ei p k v i M) := by
  unfold ei
  split
  · exact h
  · exact zk_it2 _ _ _ (fun j M1 h1 h2 q => ⟨zk_ml_set q.1, zk_bm_set q.2 (F.xl (q.2 _ _ hi (by omega)) (F.gml (h.2 _ _ hi (by omega)) (q.2 _ _ hkv (by omega))))⟩) h
theorem eqclear_ok {p n k v : Nat} {P L : List Nat} {M : List (List Nat)} (F : zk_F p n P L) (hkv : k < v) (hk : mg M k k ≠ 0) (h : zk_ml M ∧ zk_bm n v M) : zk_ml (eqclear p k v M) ∧ zk_bm n v (eqclear p k v M) :=
  zk_it2 _ _ _ (fun i _ h1 h2 q => ei_ok F hkv (by omega) q) (ec1_ok F hkv hk h)
theorem epv_le {M : List (List Nat)} {k : Nat} : ∀ (f q : Nat), q ≤ epv M k f q ∧ epv M k f q ≤ q + f ∧ (epv M k f q ≠ q + f → mg M (epv M k f q) k ≠ 0) := by
  intro f
  induction f with
  | zero => intro q; exact ⟨Nat.le_refl _, Nat.le_refl _, fun h => absurd rfl h⟩
  | succ f ih =>
    intro q
    by_cases h : mg M q k = 0
    · rw [epv_s0 h]
      obtain ⟨a, b, c⟩ := ih (q + 1)
      exact ⟨by omega, by omega, fun z => c (by omega)⟩
    · rw [epv_s1 h]
      exact ⟨Nat.le_refl _, by omega, fun _ => h⟩
theorem esl_ok {p n v : Nat} {P L : List Nat} (F : zk_F p n P L) (hv : v ≤ 3) : ∀ (r k : Nat) (M : List (List Nat)), k + r = v → zk_ml M ∧ zk_bm n v M → zk_ml (esl p v r k M).2 ∧ zk_bm n v (esl p v r k M).2 := by
  intro r
  induction r with
  | zero => intro k M _ h; exact h
  | succ r ih =>
    intro k M hk h
    obtain ⟨a, b, c⟩ := epv_le (M := M) (k := k) (v - k) k
    by_cases q : epv M k (v - k) k = v
    · rw [esl_s0 q]; exact h
    · rw [esl_s1 q]
      refine ih _ _ (by omega) (eqclear_ok F (by omega) ?_ ⟨zk_ml_sw h.1 (by omega) (by omega), zk_bm_sw h.1 hv (by omega) (by omega) h.2⟩)
      rw [mg_sw h.1 (by omega) (by omega)]
      split
      · next e => rw [← e] at c; exact c (by omega)
      · rw [if_pos rfl]; exact c (by omega)
theorem eqsolve_ok {p n v : Nat} {P L S : List Nat} {M : List (List Nat)} (F : zk_F p n P L) (bS : zk_bs n v S) (hv : v ≤ 3) (h : zk_ml M) : zk_ml (eqsolve p v S M).2 ∧ zk_bm n v (eqsolve p v S M).2 := esl_ok F hv v 0 _ (by omega) (eqfill_ok bS hv h)
def zk_bn (b : Bool) : Nat := match b with | true => 1 | false => 0
