/-! ===== PURE: degreeOf, Field.make ===== -/
set_option maxRecDepth 100000
theorem zk_log2_half {x : Nat} (h : 2 ≤ x) : Nat.log2 x = Nat.log2 (x >>> 1) + 1 := by
  rw [Nat.log2_def, if_pos h, Nat.shiftRight_eq_div_pow]
/-- bits of a number -/
def zk_bl (x : Nat) : Nat := if x = 0 then 0 else Nat.log2 x + 1
theorem zk_bl_s {x : Nat} (h : x ≠ 0) : zk_bl x = zk_bl (x >>> 1) + 1 := by
  unfold zk_bl
  rw [if_neg h]
  by_cases q : 2 ≤ x
  · have h2 : x >>> 1 ≠ 0 := by rw [Nat.shiftRight_eq_div_pow]; omega
    rw [if_neg h2, zk_log2_half q]
  · have h1 : x = 1 := by omega
    subst h1
    decide
noncomputable def mkX (p n e : Nat) : Nat := zk_it (fun _ x => (x <<< 1) ^^^ (if n < x <<< 1 then p else 0)) e 0 1
theorem mkX_0 (p n : Nat) : mkX p n 0 = 1 := rfl
theorem mkX_s (p n e : Nat) : mkX p n (e + 1) = (mkX p n e <<< 1) ^^^ (if n < mkX p n e <<< 1 then p else 0) := by
  unfold mkX
  rw [zk_it_last]
theorem mkX_s1 {p n e x : Nat} (hx : x = mkX p n e) (h : n < x <<< 1) : x <<< 1 ^^^ p = mkX p n (e + 1) := by rw [mkX_s, ← hx, if_pos h]
theorem mkX_s0 {p n e x : Nat} (hx : x = mkX p n e) (h : x <<< 1 ≤ n) : x <<< 1 ^^^ 0 = mkX p n (e + 1) := by rw [mkX_s, ← hx, if_neg (Nat.not_lt.mpr h)]
def zk_nn (p : Nat) : Nat := if p < 16 then 7 else if p < 32 then 15 else 31
theorem zk_nn_3 (p : Nat) : zk_nn p = 7 ∨ zk_nn p = 15 ∨ zk_nn p = 31 := by
  unfold zk_nn
  split
  · exact Or.inl rfl
  · split
    · exact Or.inr (Or.inl rfl)
    · exact Or.inr (Or.inr rfl)
theorem mkX_le : ∀ p, p < 64 → 8 ≤ p → ∀ e, e < zk_nn p + 1 → mkX p (zk_nn p) e ≤ zk_nn p := by decide +kernel
theorem mkX_pr : ∀ q ∈ zk_pr, (∀ e, e < q.2 → mkX q.1 q.2 e = pw q.1 e ∧ (0 < e → mkX q.1 q.2 e ≠ 1)) ∧ mkX q.1 q.2 q.2 = 1 ∧ zk_nn q.1 = q.2 := by decide +kernel
theorem mkX_un : ∀ p, p < 64 → 8 ≤ p → (p, zk_nn p) ∉ zk_pr → (∃ e, e < zk_nn p ∧ 0 < e ∧ mkX p (zk_nn p) e = 1) ∨ mkX p (zk_nn p) (zk_nn p) ≠ 1 := by
  have h : ∀ p, p < 64 → (p < 8 ∨ (p, zk_nn p) ∈ zk_pr ∨ mkX p (zk_nn p) (zk_nn p) ≠ 1 ∨ (List.range (zk_nn p)).any (fun e => decide (0 < e) && decide (mkX p (zk_nn p) e = 1)) = true) := by decide +kernel
  intro p h1 h2 h3
  rcases h p h1 with q | q | q | q
  · omega
  · exact absurd q h3
  · exact Or.inr q
  · left
    obtain ⟨e, he, hq⟩ := List.any_eq_true.mp q
    simp only [Bool.and_eq_true, decide_eq_true_eq] at hq
    exact ⟨e, List.mem_range.mp he, hq.1, hq.2⟩
theorem zk_lgpw : ∀ q ∈ zk_pr, ∀ j, j < q.2 → lg q.1 (pw q.1 j) = j := by decide +kernel
theorem zk_log2n : ∀ p, p < 64 → 8 ≤ p → (1 <<< Nat.log2 p) - 1 = zk_nn p ∧ 1 ≤ 1 <<< Nat.log2 p ∧ Nat.log2 p < 32 := by decide +kernel
theorem mk_no {p n i y : Nat} (hno : ∀ j, 0 < j → j < i → mkX p n j ≠ 1) (hye : y = mkX p n i) (h : i = 0 ∨ y ≠ 1) : ∀ j, 0 < j → j < i + 1 → mkX p n j ≠ 1 := by
  intro j j0 j1
  rcases Nat.lt_or_ge j i with q | q
  · exact hno j j0 q
  · have hji : j = i := by omega
    subst hji
    rcases h with h | h
    · omega
    · rw [← hye]; exact h
/-- the first loop's tables, as far as e -/
def mk_T (p n e : Nat) (P L : List Nat) : Prop := (p, n) ∈ zk_pr → ∀ j, j < e → P.getD j 0 = pw p j ∧ L.getD (pw p j) 0 = j
theorem mk_T_0 {p n : Nat} {P L : List Nat} : mk_T p n 0 P L := fun _ j h => absurd h (Nat.not_lt_zero j)
theorem mk_T_s {p n e x : Nat} {P L : List Nat} (h : mk_T p n e P L) (he : e < n) (hn : n ≤ 31) (hP : P.length = 62) (hL : L.length = 32) (hx : x = mkX p n e) : mk_T p n (e + 1) (P.set e x) (L.set x e) := by
  intro hp j hj
  have hxp : x = pw p e := by rw [hx]; exact ((mkX_pr _ hp).1 e he).1
  have hpe := zk_lgpw _ hp e he
  have hpj := zk_lgpw _ hp j (show j < n by omega)
  have hpl : pw p j ≤ n := (zk_pw_all _ hp j (by dsimp only; omega)).1.2
  rw [zk_gs, zk_gs]
  rcases Nat.lt_or_ge j e with q | q
  · have hne : ¬ (x = pw p j ∧ pw p j < L.length) := by
      rintro ⟨h1, -⟩
      rw [hxp] at h1
      dsimp only at hpe hpj
      rw [h1, hpj] at hpe
      omega
    rw [if_neg (by omega), if_neg hne]
    exact h hp j q
  · have hje : j = e := by omega
    subst hje
    rw [if_pos ⟨rfl, by omega⟩, if_pos ⟨hxp, by omega⟩]
    exact ⟨hxp, rfl⟩
/-- the second loop's -/
def mk_U (p n e : Nat) (P L : List Nat) : Prop := (p, n) ∈ zk_pr → (∀ j, j < e → P.getD j 0 = pw p j) ∧ ∀ j, j < n → L.getD (pw p j) 0 = j
theorem mk_U_0 {p n : Nat} {P L : List Nat} (h : mk_T p n n P L) : mk_U p n n P L := fun hp => ⟨fun j hj => (h hp j hj).1, fun j hj => (h hp j hj).2⟩
theorem mk_U_s {p n e : Nat} {P L : List Nat} (h : mk_U p n e P L) (he : n ≤ e) (he2 : e < 2 * n) (hn : n ≤ 31) (hP : P.length = 62) : mk_U p n (e + 1) (P.set e (P.getD (e - n) 0)) L := by
  intro hp
  obtain ⟨h1, h2⟩ := h hp
  refine ⟨fun j hj => ?_, h2⟩
  rw [zk_gs]
  rcases Nat.lt_or_ge j e with q | q
  · rw [if_neg (by omega)]; exact h1 j q
  · have hje : j = e := by omega
    subst hje
    rw [if_pos ⟨rfl, by omega⟩, h1 _ (by omega)]
    have a1 := (zk_pw_all _ hp j he2).2
    have a2 := (zk_pw_all _ hp (j - n) (by dsimp only; omega)).2
    dsimp only at a1 a2
    rw [a1, a2]
    congr 1
    rw [Nat.mod_eq_sub_mod he]
theorem mk_F {p n : Nat} {P L : List Nat} (hp : (p, n) ∈ zk_pr) (h : mk_U p n (2 * n) P L) (hP : P.length = 62) (hL : L.length = 32) : zk_F p n P L := by
  obtain ⟨h1, h2⟩ := h hp
  refine ⟨hp, hP, hL, h1, fun x hx0 hxn => ?_⟩
  obtain ⟨g1, g2⟩ := zk_lg_all _ hp x (by dsimp only; omega)
  have := h2 (lg p x) g1
  rw [g2 hx0] at this
  exact this
