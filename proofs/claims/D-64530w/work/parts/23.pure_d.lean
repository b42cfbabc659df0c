/-! ===== PURE: Poly ===== -/
set_option maxRecDepth 100000
theorem zk_len_it {f : Nat → List Nat → List Nat} (hf : ∀ i c, (f i c).length = c.length) : ∀ (k i : Nat) (c : List Nat), (zk_it f k i c).length = c.length := by
  intro k
  induction k with
  | zero => intro i c; rfl
  | succ k ih => intro i c; rw [zk_it_s, ih, hf]
/-- Poly.clear -/
def clF (i : Nat) (c : List Nat) : List Nat := c.set i 0
theorem clF_8 {c : List Nat} (h : c.length = 8) : zk_it clF 8 0 c = [0, 0, 0, 0, 0, 0, 0, 0] := by
  match c, h with
  | [_, _, _, _, _, _, _, _], _ => rfl
/-- Poly.degree, and one: the number of places in use -/
noncomputable def dgn (c : List Nat) (j : Nat) : Nat := Nat.rec (motive := fun _ => Nat) 0 (fun j ih => if c.getD j 0 = 0 then ih else j + 1) j
theorem dgn_0 (c : List Nat) : dgn c 0 = 0 := rfl
theorem dgn_s0 {c : List Nat} {j : Nat} (h : c.getD j 0 = 0) : dgn c (j + 1) = dgn c j := by show (if c.getD j 0 = 0 then dgn c j else j + 1) = _; rw [if_pos h]
theorem dgn_s1 {c : List Nat} {j : Nat} (h : c.getD j 0 ≠ 0) : dgn c (j + 1) = j + 1 := by show (if c.getD j 0 = 0 then dgn c j else j + 1) = _; rw [if_neg h]
theorem dgn_le (c : List Nat) (j : Nat) : dgn c j ≤ j := by
  induction j with
  | zero => exact Nat.le_refl _
  | succ j ih =>
    by_cases h : c.getD j 0 = 0
    · rw [dgn_s0 h]; omega
    · rw [dgn_s1 h]; exact Nat.le_refl _
theorem dgn_top {c : List Nat} {j : Nat} (h : dgn c j ≠ 0) : c.getD (dgn c j - 1) 0 ≠ 0 := by
  induction j with
  | zero => exact absurd rfl h
  | succ j ih =>
    by_cases q : c.getD j 0 = 0
    · rw [dgn_s0 q] at h ⊢; exact ih h
    · rw [dgn_s1 q]; exact q
theorem dgn_above {c : List Nat} {j i : Nat} (h1 : dgn c j ≤ i) (h2 : i < j) : c.getD i 0 = 0 := by
  induction j with
  | zero => omega
  | succ j ih =>
    by_cases q : c.getD j 0 = 0
    · rw [dgn_s0 q] at h1
      rcases Nat.lt_or_ge i j with z | z
      · exact ih h1 z
      · rw [show i = j by omega]; exact q
    · rw [dgn_s1 q] at h1; omega
theorem dgn_of {c : List Nat} {j d : Nat} (hd : d ≤ j) (h : ∀ i, d ≤ i → i < j → c.getD i 0 = 0) : dgn c j ≤ d := by
  induction j with
  | zero => rw [dgn_0]; omega
  | succ j ih =>
    by_cases q : c.getD j 0 = 0
    · rw [dgn_s0 q]
      rcases Nat.lt_or_ge j d with z | z
      · have := dgn_le c j; omega
      · exact ih z (fun i h1 h2 => h i h1 (by omega))
    · rw [dgn_s1 q]
      rcases Nat.lt_or_ge j d with z | z
      · omega
      · exact absurd (h j z (by omega)) q
/-- a round of Poly.add -/
def paF (p by_ sh : Nat) (q : List Nat) (i : Nat) (c : List Nat) : List Nat := c.set (i + sh) (c.getD (i + sh) 0 ^^^ gm p (q.getD i 0) by_)
noncomputable def padd (p by_ sh : Nat) (q c : List Nat) : List Nat := zk_it (paF p by_ sh q) (8 - sh) 0 c
theorem padd_len (p by_ sh : Nat) (q c : List Nat) : (padd p by_ sh q c).length = c.length := zk_len_it (fun i c => by rw [paF, List.length_set]) _ _ _
theorem zk_bd_it {n : Nat} {f : Nat → List Nat → List Nat} (hf : ∀ i c, zk_bd n c → zk_bd n (f i c)) : ∀ (k i : Nat) (c : List Nat), zk_bd n c → zk_bd n (zk_it f k i c) := by
  intro k
  induction k with
  | zero => intro i c h; exact h
  | succ k ih => intro i c h; rw [zk_it_s]; exact ih _ _ (hf _ _ h)
theorem padd_bd {p n by_ sh : Nat} {P L q c : List Nat} (F : zk_F p n P L) (hq : zk_bd n q) (hby : by_ ≤ n) (hc : zk_bd n c) : zk_bd n (padd p by_ sh q c) :=
  zk_bd_it (fun i c h => zk_bd_set h (F.xl (h _) (F.gml (hq _) hby))) _ _ _ hc
/-- a round of Poly.value -/
def vaF (p n x : Nat) (c : List Nat) (i s : Nat) : Nat := s ^^^ (if c.getD i 0 = 0 then 0 else pw p ((lg p (c.getD i 0) + i * x) % n))
noncomputable def pval (p n x : Nat) (c : List Nat) : Nat := zk_it (vaF p n x c) 8 0 0
theorem vaF_0 {p n x i s : Nat} {c : List Nat} (h : c.getD i 0 = 0) : s ^^^ 0 = vaF p n x c i s := by rw [vaF, if_pos h]
theorem vaF_1 {p n x i s : Nat} {c P L : List Nat} (F : zk_F p n P L) (hn : 0 < n) (hc : zk_bd n c) (h : c.getD i 0 ≠ 0) : s ^^^ P.getD ((L.getD (c.getD i 0) 0 + i * x) % n) 0 = vaF p n x c i s := by
  rw [vaF, if_neg h, F.L h (hc i), F.P (by have := Nat.mod_lt (lg p (c.getD i 0) + i * x) hn; omega)]
theorem vaF_le {p n x : Nat} {c P L : List Nat} (F : zk_F p n P L) : ∀ (k i s : Nat), s ≤ n → zk_it (vaF p n x c) k i s ≤ n := by
  intro k
  induction k with
  | zero => intro i s h; exact h
  | succ k ih =>
    intro i s h
    rw [zk_it_s]
    refine ih _ _ ?_
    have hn := F.n31
    unfold vaF
    split
    · exact F.xl h (Nat.zero_le _)
    · refine F.xl h (zk_pw_all _ F.1 _ ?_).1.2
      have := Nat.mod_lt (lg p (c.getD i 0) + i * x) (show 0 < n by omega)
      dsimp only; omega
theorem atF_le {p n wd x : Nat} {P L : List Nat} (F : zk_F p n P L) : ∀ (k i s : Nat), s ≤ n → zk_it (atF p n wd x) k i s ≤ n := by
  intro k
  induction k with
  | zero => intro i s h; exact h
  | succ k ih =>
    intro i s h
    rw [zk_it_s]
    refine ih _ _ ?_
    have hn := F.n31
    unfold atF
    split
    · exact F.xl h (Nat.zero_le _)
    · refine F.xl h (zk_pw_all _ F.1 _ ?_).1.2
      have := Nat.mod_lt (i * x) (show 0 < n by omega)
      dsimp only; omega
