/-! ===== PURE: Growing ===== -/
set_option maxRecDepth 100000
theorem zk_bd_z8 {n : Nat} : zk_bd n [0, 0, 0, 0, 0, 0, 0, 0] := by
  intro j
  match j with
  | 0 | 1 | 2 | 3 | 4 | 5 | 6 | 7 => exact Nat.zero_le _
  | j + 8 => exact Nat.zero_le _
/-- the syndromes in use are at most n -/
def zk_bs (n t : Nat) (S : List Nat) : Prop := ∀ j, j ≤ 2 * t → S.getD j 0 ≤ n
theorem zk_bs_mono {n t u : Nat} {S : List Nat} (h : zk_bs n t S) (hu : u ≤ t) : zk_bs n u S := fun j hj => h j (by omega)
theorem zk_bd_mono {n m : Nat} {l : List Nat} (h : zk_bd n l) (hm : n ≤ m) : zk_bd m l := fun j => Nat.le_trans (h j) hm
def gwF (p : Nat) (S c : List Nat) (k i w : Nat) : Nat := w ^^^ gm p (c.getD i 0) (S.getD (k + 1 - i) 0)
noncomputable def grw (p : Nat) (S c : List Nat) (k len : Nat) : Nat := zk_it (gwF p S c k) (len + 1) 0 0
theorem gwF_le {p n : Nat} {P L S c : List Nat} (F : zk_F p n P L) {t : Nat} (hS : zk_bs n t S) (hc : zk_bd n c) (k : Nat) (hk : k < 2 * t) : ∀ (j i w : Nat), w ≤ n → zk_it (gwF p S c k) j i w ≤ n := by
  intro j
  induction j with
  | zero => intro i w h; exact h
  | succ j ih => intro i w h; rw [zk_it_s]; exact ih _ _ (F.xl h (F.gml (hc _) (hS _ (by omega))))
abbrev GrS : Type := List Nat × List Nat × Nat × Nat × Nat
/-- a round of Growing.find: found, other, length, shift, last -/
noncomputable def grF (p : Nat) (S : List Nat) (k : Nat) (z : GrS) : GrS :=
  if grw p S z.1 k z.2.2.1 = 0 then (z.1, z.2.1, z.2.2.1, z.2.2.2.1 + 1, z.2.2.2.2)
  else if 2 * z.2.2.1 ≤ k then (padd p (gd p (grw p S z.1 k z.2.2.1) z.2.2.2.2) z.2.2.2.1 z.2.1 z.1, z.1, k + 1 - z.2.2.1, 1, grw p S z.1 k z.2.2.1)
  else (padd p (gd p (grw p S z.1 k z.2.2.1) z.2.2.2.2) z.2.2.2.1 z.2.1 z.1, z.2.1, z.2.2.1, z.2.2.2.1 + 1, z.2.2.2.2)
theorem grF_0 {p k len sh la : Nat} {S c o : List Nat} (h : grw p S c k len = 0) : (c, o, len, sh + 1, la) = grF p S k (c, o, len, sh, la) := by unfold grF; rw [if_pos h]
theorem grF_1 {p k len sh la : Nat} {S c o : List Nat} (h : grw p S c k len ≠ 0) (h2 : 2 * len ≤ k) : (padd p (gd p (grw p S c k len) la) sh o c, c, k + 1 - len, 1, grw p S c k len) = grF p S k (c, o, len, sh, la) := by unfold grF; rw [if_neg h, if_pos h2]
theorem grF_2 {p k len sh la : Nat} {S c o : List Nat} (h : grw p S c k len ≠ 0) (h2 : ¬ 2 * len ≤ k) : (padd p (gd p (grw p S c k len) la) sh o c, o, len, sh + 1, la) = grF p S k (c, o, len, sh, la) := by unfold grF; rw [if_neg h, if_neg h2]
/-- Growing.find -/
noncomputable def grow (p t : Nat) (S : List Nat) : List Nat := (zk_it (grF p S) (2 * t) 0 ([1, 0, 0, 0, 0, 0, 0, 0], [1, 0, 0, 0, 0, 0, 0, 0], 0, 1, 1)).1
