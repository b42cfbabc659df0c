/-! ===== PURE: longs; Code.product, isRight, encode, least, make ===== -/
set_option maxRecDepth 100000
def nL (n : Nat) : Int64 := Int64.ofNat n
theorem zk_tl (a : Nat) : (nL a).toBitVec.toNat = a % 2 ^ 64 := by
  show (BitVec.ofNat 64 a).toNat = _
  rw [BitVec.toNat_ofNat]
theorem zk_injL {x y : Int64} (h : x.toBitVec.toNat = y.toBitVec.toNat) : x = y := Int64.toBitVec_inj.mp (BitVec.eq_of_toNat_eq h)
theorem zk_lxor (a b : Nat) : nL a ^^^ nL b = nL (a ^^^ b) := by
  apply zk_injL
  show ((nL a).toBitVec ^^^ (nL b).toBitVec).toNat = _
  rw [BitVec.toNat_xor, zk_tl, zk_tl, zk_tl, Nat.xor_mod_two_pow]
theorem zk_i2l {a : Nat} (h : a < 2 ^ 31) : (nI a).toInt64 = nL a := by
  apply zk_injL
  show (BitVec.signExtend 64 (nI a).toBitVec).toNat = _
  rw [BitVec.signExtend_eq_setWidth_of_msb_false (by rw [BitVec.msb_eq_false_iff_two_mul_lt, zk_tn]; omega), BitVec.toNat_setWidth, zk_tn, zk_tl]
  omega
theorem zk_sl6 : ∀ k, k < 32 → (((nI k).toInt64 &&& 63).toBitVec.smod 64).toNat = k := by decide +kernel
theorem zk_lshl (a : Nat) {k : Nat} (hk : k < 32) : nL a <<< ((nI k).toInt64 &&& 63) = nL (a <<< k) := by
  apply zk_injL
  show ((nL a).toBitVec <<< (((nI k).toInt64 &&& 63).toBitVec.smod 64).toNat).toNat = _
  rw [zk_sl6 k hk, BitVec.toNat_shiftLeft, zk_tl, zk_tl, Nat.shiftLeft_eq, Nat.shiftLeft_eq, Nat.mod_mul_mod]
theorem zk_l2i (x : Nat) : (nL x).toInt32 = nI x := by
  apply zk_inj
  show (BitVec.signExtend 32 (nL x).toBitVec).toNat = _
  rw [BitVec.signExtend_eq_setWidth_of_le _ (by decide), BitVec.toNat_setWidth, zk_tl, zk_tn]
  omega
theorem zk_m1 {a : Nat} (h : 1 ≤ a) : nI a + (-1) = nI (a - 1) := by
  obtain ⟨b, rfl⟩ : ∃ b, a = b + 1 := ⟨a - 1, by omega⟩
  rw [pk_m1]; rfl
theorem zk_nar {r : Nat} (h : r < 2) : narrow .boolean (.int (nI r)) = .int (nI r) := by
  have h2 : r = 0 ∨ r = 1 := by omega
  rcases h2 with rfl | rfl <;> rfl
section
variable {p : Program} {l : Launch} {e : Env} {R : Room} {s : State} {m : MethodId} {args : Array Value} {below : List Frame} {meth : Method} {c : Code} {H : Heap} {locs : List Loc} {cells slots : Nat} {Q : State → Prop}
variable {cc : ByteArray} {pc : Nat} {ls : Array Slot} {rest : List Value}
theorem nr_i2l (hx : p.tables.exec = Jvm.exec) (hb : c.code = cc) {a : Nat} (ha : a < 2 ^ 31) (hdg : decode cc pc = .ok (.i2l, 1)) (k : W p l e R s m args below meth c H locs cells slots Q (F0 m (pc + 1) ls (.long (nL a) :: rest))) : W p l e R s m args below meth c H locs cells slots Q (F0 m pc ls (.int (nI a) :: rest)) :=
  lv_i2l hx hb hdg (zk_i2l ha) k
theorem nr_l2i (hx : p.tables.exec = Jvm.exec) (hb : c.code = cc) {a : Nat} (hdg : decode cc pc = .ok (.l2i, 1)) (k : W p l e R s m args below meth c H locs cells slots Q (F0 m (pc + 1) ls (.int (nI a) :: rest))) : W p l e R s m args below meth c H locs cells slots Q (F0 m pc ls (.long (nL a) :: rest)) :=
  lv_l2i hx hb hdg (zk_l2i a) k
theorem nr_lshl (hx : p.tables.exec = Jvm.exec) (hb : c.code = cc) {a b : Nat} (h : b < 32) (hdg : decode cc pc = .ok (.lshl, 1)) (k : W p l e R s m args below meth c H locs cells slots Q (F0 m (pc + 1) ls (.long (nL (a <<< b)) :: rest))) : W p l e R s m args below meth c H locs cells slots Q (F0 m pc ls (.int (nI b) :: .long (nL a) :: rest)) :=
  lv_lshl hx hb hdg (zk_lshl a h) k
theorem nr_lxor (hx : p.tables.exec = Jvm.exec) (hb : c.code = cc) {a b : Nat} (hdg : decode cc pc = .ok (.lxor, 1)) (k : W p l e R s m args below meth c H locs cells slots Q (F0 m (pc + 1) ls (.long (nL (a ^^^ b)) :: rest))) : W p l e R s m args below meth c H locs cells slots Q (F0 m pc ls (.long (nL b) :: .long (nL a) :: rest)) :=
  lv_lxor hx hb hdg (by rw [zk_lxor]; exact k)
end
/-- Code.product -/
def prF (a b i s : Nat) : Nat := s ^^^ (if b >>> i &&& 1 = 0 then 0 else a <<< i)
noncomputable def prd (a b : Nat) : Nat := zk_it (prF a b) 32 0 0
theorem prF_0 {a b i s : Nat} (h : b >>> i &&& 1 = 0) : s ^^^ 0 = prF a b i s := by rw [prF, if_pos h]
theorem prF_1 {a b i s : Nat} (h : b >>> i &&& 1 ≠ 0) : s ^^^ a <<< i = prF a b i s := by rw [prF, if_neg h]
/-- Code.isRight: the syndromes, and whether all are 0 -/
noncomputable def syF (p n wd j : Nat) (S : List Nat) : List Nat := S.set j (atv p n wd j)
noncomputable def syn (p n t wd : Nat) (S : List Nat) : List Nat := zk_it (syF p n wd) (2 * t) 1 S
noncomputable def rtF (p n wd j r : Nat) : Nat := r &&& (if atv p n wd j = 0 then 1 else 0)
noncomputable def rgt (p n t wd : Nat) : Nat := zk_it (rtF p n wd) (2 * t) 1 1
theorem rtF_1 {p n wd j r : Nat} (h : atv p n wd j = 0) : r &&& 1 = rtF p n wd j r := by rw [rtF, if_pos h]
theorem rtF_0 {p n wd j r : Nat} (h : atv p n wd j ≠ 0) : r &&& 0 = rtF p n wd j r := by rw [rtF, if_neg h]
theorem rtF_lt {p n wd j r : Nat} (h : r < 2) : rtF p n wd j r < 2 := by
  unfold rtF
  split
  · exact zk_b1 r
  · rw [Nat.and_zero]; decide
theorem zk_sg {S : List Nat} {j v : Nat} (h : j < S.length) : (S.set j v).getD j 0 = v := by simp [List.getD_eq_getElem?_getD, h]
theorem zk_sgn {S : List Nat} {i j v : Nat} (h : i ≠ j) : (S.set i v).getD j 0 = S.getD j 0 := by simp [List.getD_eq_getElem?_getD, List.getElem?_set_ne h]
/-- Code.encode -/
def enF (g d i r : Nat) : Nat := r ^^^ (if r >>> i &&& 1 = 0 then 0 else g <<< (i - d))
noncomputable def enR (g d k r : Nat) : Nat := Nat.rec (motive := fun _ => Nat → Nat) (fun r => r) (fun k ih r => ih (enF g d (d + k) r)) k r
theorem enR_s (g d k r : Nat) : enR g d (k + 1) r = enR g d k (enF g d (d + k) r) := rfl
theorem enF_0 {g d i r : Nat} (h : r >>> i &&& 1 = 0) : r ^^^ 0 = enF g d i r := by rw [enF, if_pos h]
theorem enF_1 {g d i r : Nat} (h : r >>> i &&& 1 ≠ 0) : r ^^^ g <<< (i - d) = enF g d i r := by rw [enF, if_neg h]
theorem zk_xtop {r x i : Nat} (hr : r < 2 ^ (i + 1)) (hx : x < 2 ^ (i + 1)) (h1 : r.testBit i = true) (h2 : x.testBit i = true) : r ^^^ x < 2 ^ i := by
  apply Nat.lt_pow_two_of_testBit
  intro j hj
  rw [Nat.testBit_xor]
  rcases Nat.eq_or_lt_of_le hj with q | q
  · rw [← q, h1, h2]; rfl
  · rw [Nat.testBit_lt_two_pow (Nat.lt_of_lt_of_le hr (Nat.pow_le_pow_right (by decide) q)), Nat.testBit_lt_two_pow (Nat.lt_of_lt_of_le hx (Nat.pow_le_pow_right (by decide) q))]; rfl
theorem zk_tb (r i : Nat) : (r >>> i &&& 1 ≠ 0) ↔ r.testBit i = true := by
  unfold Nat.testBit
  rw [Nat.and_comm]
  simp
theorem enF_lt {g d i r : Nat} (hr : r < 2 ^ (i + 1)) (hd : d ≤ i) (hg : g < 2 ^ (d + 1)) (hb : g.testBit d = true) : enF g d i r < 2 ^ i := by
  by_cases h : r >>> i &&& 1 = 0
  · rw [← enF_0 h, Nat.xor_zero]
    rcases Nat.lt_or_ge r (2 ^ i) with q | q
    · exact q
    · exfalso
      have h2 : r.testBit i = true := by
        rw [Nat.testBit_eq_decide_div_mod_eq, decide_eq_true_eq, Nat.div_eq_of_lt_le (k := 1) (by omega) (by rw [Nat.pow_succ] at hr; omega)]
      exact ((zk_tb r i).mpr h2) h
  · rw [← enF_1 h]
    refine zk_xtop hr ?_ ((zk_tb r i).mp h) ?_
    · rw [Nat.shiftLeft_eq, show i + 1 = (d + 1) + (i - d) by omega, Nat.pow_add]
      exact Nat.mul_lt_mul_of_lt_of_le hg (Nat.le_refl _) (Nat.two_pow_pos _)
    · rw [Nat.testBit_shiftLeft]
      simp [show i - d ≤ i by omega, show i - (i - d) = d by omega, hb]
noncomputable def enc (g d n x : Nat) : Nat := (x <<< d) ||| enR g d (n - d) (x <<< d)
/-- Code.least: a pass, all passes, the bits -/
noncomputable def lsR (p x j : Nat) (c : List Nat) : List Nat := Nat.rec (motive := fun _ => List Nat → List Nat) (fun c => c) (fun j ih c => ih (c.set j ((if 0 < j then c.getD (j - 1) 0 else 0) ^^^ gm p (c.getD j 0) x))) j c
theorem lsR_s (p x j : Nat) (c : List Nat) : lsR p x (j + 1) c = lsR p x j (c.set j ((if 0 < j then c.getD (j - 1) 0 else 0) ^^^ gm p (c.getD j 0) x)) := rfl
noncomputable def lsW (p n e0 f a : Nat) (c : List Nat) : List Nat := Nat.rec (motive := fun _ => Nat → List Nat → List Nat) (fun _ c => c) (fun _ ih a c => if 2 * a % n = e0 then lsR p (pw p a) 8 c else ih (2 * a % n) (lsR p (pw p a) 8 c)) f a c
noncomputable def lsT (n e0 f a : Nat) : Bool := Nat.rec (motive := fun _ => Nat → Bool) (fun _ => false) (fun _ ih a => if 2 * a % n = e0 then true else ih (2 * a % n)) f a
theorem lsW_1 {p n e0 f a : Nat} {c : List Nat} (h : 2 * a % n = e0) : lsW p n e0 (f + 1) a c = lsR p (pw p a) 8 c := by show (if 2 * a % n = e0 then _ else _) = _; rw [if_pos h]
theorem lsW_0 {p n e0 f a : Nat} {c : List Nat} (h : 2 * a % n ≠ e0) : lsW p n e0 (f + 1) a c = lsW p n e0 f (2 * a % n) (lsR p (pw p a) 8 c) := by show (if 2 * a % n = e0 then _ else _) = _; rw [if_neg h]; rfl
theorem lsT_0 {n e0 f a : Nat} (h : 2 * a % n ≠ e0) : lsT n e0 (f + 1) a = lsT n e0 f (2 * a % n) := by show (if 2 * a % n = e0 then _ else _) = _; rw [if_neg h]; rfl
def lbF (c : List Nat) (i b : Nat) : Nat := b ||| c.getD i 0 <<< i
noncomputable def lst (p n e : Nat) : Nat := zk_it (lbF (lsW p n (e % n) 5 (e % n) [1, 0, 0, 0, 0, 0, 0, 0])) 8 0 0
theorem lsT_ok : ∀ q ∈ zk_pr, ∀ e, e < 7 → lsT q.2 (e % q.2) 5 (e % q.2) = true := by decide +kernel
/-- Code.make: the generator -/
noncomputable def mgF (p n e g : Nat) : Nat := if atv p n g e = 0 then g else prd g (lst p n e)
noncomputable def gsq (p n e : Nat) : Nat := zk_it (mgF p n) e 1 1
noncomputable def gnr (p n t : Nat) : Nat := gsq p n (2 * t)
theorem gsq_s (p n e : Nat) : gsq p n (e + 1) = mgF p n (e + 1) (gsq p n e) := by
  unfold gsq
  rw [zk_it_last, Nat.add_comm 1 e]
theorem gsq_ok : ∀ q ∈ zk_pr, ∀ e, e < 7 → gsq q.1 q.2 e < 65536 ∧ gsq q.1 q.2 e ≠ 0 ∧ Nat.log2 (gsq q.1 q.2 e) < q.2 ∧ lst q.1 q.2 e < 65536 := by decide +kernel
