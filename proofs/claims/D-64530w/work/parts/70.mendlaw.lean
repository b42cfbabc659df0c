/-! ===== the mending law: what the component mends is what the model finds ===== -/
set_option maxRecDepth 100000
def vT (p : Nat) : Nat := match p with
  | 11 => 794257559602440171874315455837858272168556540093558254385400585425883040612395021062229668746559887923106550821708930015975117518929614474950779387114347614918335902676792104845313
  | 13 => 923922006560898024907559860480598526831255459785236202681487897619567070996698077134786345159342286588086832493537503746617794015304241353623227793344978167080627006292544188448769
  | 19 => 187479818984213071807776085738235694642303282624866655963482337578753823624600296314739633824345258834294170375833823029756318568737604880864244924654234659451821394236806747870473991320119301711724545
  | 25 => 246679662282035593634706749621362259376060910007591150035830279151078509163269211607610674753565877924528507001198387575444069012462905701044967269802991885460909639789051320675487143088597138254462977
  | 37 => 1444404467781989122271104433625493671441978051032695317303245333841602940587960312016069284721902552438471297419104586370785114881440330289995457560563343006102909775993022016299783819669496257558680924703970912501761
  | 41 => 869995265676847908693829759665646118878019105572197905211265910191031340698518628563088540762010445235599164693992746125557924898032459970573055709258861110756259815502245241074719828773496390472264016376456424849409
  | 47 => 1006353139237949952798308314181345443142333246608724585732463555813608405480530541809208249348650652626382556667860078069246500522192491498553497641322562291226624407902036008345977938340208193088930761405641082929153
  | 55 => 1094221860440968062191895900781543519370823294280207154419512297977800859153292088858701799964985302601485826264588392858579423492295154373764242306534036116252473356446909223216376288978972120788590510426944841056257
  | 59 => 1586796173035567589403759401941209792373256654825042221009446463433366704006790666957787733309406016280155424414481852763370722901554396530667634863186858170334083086234042709067165313790597169435596265055648261210113
  | 61 => 1868574858900809138623574247508807047838017972397709813658696898103477562931819640157470705115670835433783023929692661578679239672719117241718870269936240312319415603858644544429366789220440826320656716798463186173953
  | _ => 0
/-- the remainder out of the syndromes 1, 3, 5 -/
def vV (p t m b : Nat) : Nat := (vT p >>> (16 * (15 * (t - 1) + 5 * m + b))) % 65536
theorem atv_rmd (p n wd j : Nat) : atv p n wd j = rmd (fun i => pw p (i * j % n)) n wd := (atv_sof p n wd j).symm
theorem rmd_congr {R R' : Nat → Nat} {n : Nat} (wd : Nat) (h : ∀ i, i < n → R i = R' i) : rmd R n wd = rmd R' n wd :=
  zk_it_congr _ _ _ (fun i s _ h2 => by unfold rmF; rw [h i (by omega)])
theorem rmd_map {F R : Nat → Nat} (hF : ∀ a b, F (a ^^^ b) = F a ^^^ F b) (wd : Nat) : ∀ (k i s : Nat), zk_it (rmF (fun i => F (R i)) wd) k i (F s) = F (zk_it (rmF R wd) k i s) := by
  intro k
  induction k with
  | zero => intro i s; rfl
  | succ k ih =>
    intro i s
    rw [zk_it_s, zk_it_s, ← ih]
    congr 1
    unfold rmF
    by_cases q : wd >>> i &&& 1 = 1
    · rw [if_pos q, if_pos q, hF]
    · rw [if_neg q, if_neg q]
theorem rmd_lin {F R : Nat → Nat} (hF : ∀ a b, F (a ^^^ b) = F a ^^^ F b) (h0 : F 0 = 0) (n wd : Nat) : rmd (fun i => F (R i)) n wd = F (rmd R n wd) := by
  have h := rmd_map (R := R) hF wd n 0 0
  rw [h0] at h
  exact h
theorem rmd_0 (R : Nat → Nat) (n : Nat) : rmd R n 0 = 0 := by
  have h := rmd_xor R n 0 0
  rw [Nat.xor_self] at h
  exact h.trans (Nat.xor_self _)
theorem atv_xor (p n j a b : Nat) : atv p n (a ^^^ b) j = atv p n a j ^^^ atv p n b j := by rw [atv_rmd, atv_rmd, atv_rmd, rmd_xor]
theorem atv_0 (p n j : Nat) : atv p n 0 j = 0 := by rw [atv_rmd, rmd_0]
theorem syn_basis : ∀ q ∈ zk_pr, ∀ t, t < 4 → 1 ≤ t → ∀ j, j < 2 * t + 1 → 1 ≤ j → ∀ i, i < q.2 → pw q.1 (i * j % q.2) = atv q.1 q.2 (rst (gnr q.1 q.2 t) (lgn q.1 q.2 t) i) j := by decide +kernel
theorem syn_rem {p n t wd j : Nat} (hp : (p, n) ∈ zk_pr) (t1 : 1 ≤ t) (t3 : t ≤ 3) (j1 : 1 ≤ j) (j2 : j ≤ 2 * t) : atv p n wd j = atv p n (rmd (rst (gnr p n t) (lgn p n t)) n wd) j := by
  rw [← rmd_lin (F := fun x => atv p n x j) (fun a b => atv_xor p n j a b) (atv_0 p n j), atv_rmd]
  exact rmd_congr wd (fun i hi => syn_basis _ hp t (by omega) t1 j (by omega) j1 i hi)
noncomputable def psi (p n t x : Nat) : Nat := rmd (vV p t 0) 5 (atv p n x 1) ^^^ (if 2 ≤ t then rmd (vV p t 1) 5 (atv p n x 3) else 0) ^^^ (if 3 ≤ t then rmd (vV p t 2) 5 (atv p n x 5) else 0)
theorem psi_basis : ∀ q ∈ zk_pr, ∀ t, t < 4 → 1 ≤ t → ∀ i, i < lgn q.1 q.2 t → psi q.1 q.2 t (2 ^ i) = 2 ^ i := by decide +kernel
theorem zk_x4 (a b c d : Nat) : a ^^^ b ^^^ (c ^^^ d) = a ^^^ c ^^^ (b ^^^ d) := by rw [Nat.xor_assoc, ← Nat.xor_assoc b c d, Nat.xor_comm b c, Nat.xor_assoc c b d, ← Nat.xor_assoc]
theorem psi_xor (p n t a b : Nat) : psi p n t (a ^^^ b) = psi p n t a ^^^ psi p n t b := by
  unfold psi
  rw [atv_xor, atv_xor, atv_xor, rmd_xor, rmd_xor, rmd_xor]
  by_cases h2 : 2 ≤ t
  · rw [if_pos h2, if_pos h2, if_pos h2]
    by_cases h3 : 3 ≤ t
    · rw [if_pos h3, if_pos h3, if_pos h3, zk_x4 (rmd (vV p t 0) 5 (atv p n a 1)), zk_x4]
    · rw [if_neg h3, if_neg h3, if_neg h3, Nat.xor_zero, Nat.xor_zero, Nat.xor_zero, zk_x4]
  · have h3 : ¬ 3 ≤ t := by omega
    rw [if_neg h2, if_neg h2, if_neg h2, if_neg h3, if_neg h3, if_neg h3]
    simp only [Nat.xor_zero]
theorem psi_z {p n t x : Nat} (t1 : 1 ≤ t) (h : ∀ j, 1 ≤ j → j ≤ 2 * t → atv p n x j = 0) : psi p n t x = 0 := by
  unfold psi
  rw [h 1 (by omega) (by omega), rmd_0]
  by_cases h2 : 2 ≤ t
  · rw [if_pos h2, h 3 (by omega) (by omega), rmd_0]
    by_cases h3 : 3 ≤ t
    · rw [if_pos h3, h 5 (by omega) (by omega), rmd_0]; rfl
    · rw [if_neg h3]; rfl
  · rw [if_neg h2, if_neg (by omega)]; rfl
theorem rem_lt {p n t wd : Nat} (hp : (p, n) ∈ zk_pr) (t1 : 1 ≤ t) (t3 : t ≤ 3) : rmd (rst (gnr p n t) (lgn p n t)) n wd < 2 ^ lgn p n t := by
  have ho := (rsv_ok _ hp t (by omega) t1).1
  exact zk_it_inv (f := rmF (rst (gnr p n t) (lgn p n t)) wd) (fun _ s => s < 2 ^ lgn p n t) n 0 0 (Nat.two_pow_pos _) (fun i s _ h2 hs => by
    unfold rmF
    split
    · exact Nat.xor_lt_two_pow hs (ho i (by omega)).2
    · exact hs)
theorem psi_id {p n t x : Nat} (hp : (p, n) ∈ zk_pr) (t1 : 1 ≤ t) (t3 : t ≤ 3) (hx : x < 2 ^ lgn p n t) : psi p n t x = x := by
  have hb := psi_basis _ hp t (by omega) t1
  obtain ⟨g1, -, -, -⟩ := rst_lo _ hp t (by omega) t1
  obtain ⟨-, hln, -⟩ := rsv_ok _ hp t (by omega) t1
  dsimp only at hb g1 hln
  have e1 : rmd (rst (gnr p n t) (lgn p n t)) n x = x := rmd_small g1 (by omega) hx
  have h0 : psi p n t 0 = 0 := psi_z t1 (fun j _ _ => atv_0 p n j)
  have e2 := rmd_lin (R := rst (gnr p n t) (lgn p n t)) (psi_xor p n t) h0 n x
  rw [e1] at e2
  rw [← e2]
  exact rmd_small (fun i hi => by rw [g1 i hi]; exact hb i hi) (by omega) hx
theorem rg_it {p n wd : Nat} : ∀ (k i r : Nat), r < 2 → (zk_it (rtF p n wd) k i r ≠ 0 ↔ r ≠ 0 ∧ ∀ j, i ≤ j → j < i + k → atv p n wd j = 0) := by
  intro k
  induction k with
  | zero => intro i r _; exact ⟨fun h => ⟨h, fun j h1 h2 => by omega⟩, fun h => h.1⟩
  | succ k ih =>
    intro i r hr
    rw [zk_it_s, ih (i + 1) _ (rtF_lt hr)]
    by_cases q : atv p n wd i = 0
    · have e : rtF p n wd i r = r := by rw [rtF, if_pos q, zk_and1]; omega
      rw [e]
      exact ⟨fun h => ⟨h.1, fun j h1 h2 => if z : j = i then z ▸ q else h.2 j (by omega) (by omega)⟩, fun h => ⟨h.1, fun j h1 h2 => h.2 j (by omega) (by omega)⟩⟩
    · have e : rtF p n wd i r = 0 := by rw [rtF, if_neg q, Nat.and_zero]
      rw [e]
      exact ⟨fun h => absurd rfl h.1, fun h => absurd (h.2 i (Nat.le_refl _) (by omega)) q⟩
theorem rgt_rem {p n t wd : Nat} (hp : (p, n) ∈ zk_pr) (t1 : 1 ≤ t) (t3 : t ≤ 3) : rgt p n t wd ≠ 0 ↔ rmd (rst (gnr p n t) (lgn p n t)) n wd = 0 := by
  unfold rgt
  rw [rg_it _ _ _ (by decide)]
  constructor
  · intro h
    have hz : ∀ j, 1 ≤ j → j ≤ 2 * t → atv p n (rmd (rst (gnr p n t) (lgn p n t)) n wd) j = 0 := fun j h1 h2 => by rw [← syn_rem hp t1 t3 h1 h2]; exact h.2 j h1 (by omega)
    rw [← psi_id hp t1 t3 (rem_lt hp t1 t3)]
    exact psi_z t1 hz
  · intro h
    exact ⟨by decide, fun j h1 h2 => by rw [syn_rem hp t1 t3 h1 (by omega), h, atv_0]⟩
/-! the search -/
theorem e3_some {R : Nat → Nat} {r a b e : Nat} : ∀ (k c : Nat), e3 R r a b k c = some e → ∃ c', c ≤ c' ∧ c' < c + k ∧ R a ^^^ R b ^^^ R c' = r ∧ e = 1 <<< a ||| 1 <<< b ||| 1 <<< c' := by
  intro k
  induction k with
  | zero => intro c h; cases h
  | succ k ih =>
    intro c h
    by_cases q : R a ^^^ R b ^^^ R c = r
    · rw [e3_s1 q] at h; exact ⟨c, Nat.le_refl _, by omega, q, (Option.some.inj h).symm⟩
    · rw [e3_s0 q] at h
      obtain ⟨c', h1, h2, h3⟩ := ih (c + 1) h
      exact ⟨c', by omega, by omega, h3⟩
theorem e3_none {R : Nat → Nat} {r a b : Nat} : ∀ (k c : Nat), e3 R r a b k c = none → ∀ c', c ≤ c' → c' < c + k → R a ^^^ R b ^^^ R c' ≠ r := by
  intro k
  induction k with
  | zero => intro c _ c' h1 h2; omega
  | succ k ih =>
    intro c h c' h1 h2
    by_cases q : R a ^^^ R b ^^^ R c = r
    · rw [e3_s1 q] at h; cases h
    · rw [e3_s0 q] at h
      by_cases z : c' = c
      · rw [z]; exact q
      · exact ih (c + 1) h c' (by omega) (by omega)
theorem or_none {α : Type} {x y : Option α} (h : x.or y = none) : x = none ∧ y = none := by cases x <;> cases y <;> first | exact ⟨rfl, rfl⟩ | cases h
theorem or_some {α : Type} {x y : Option α} {e : α} (h : x.or y = some e) : x = some e ∨ y = some e := by cases x with
  | none => exact Or.inr h
  | some v => exact Or.inl h
theorem e2_some {R : Nat → Nat} {r t n a e : Nat} : ∀ (k b : Nat), b + k = n → e2 R r t n a k b = some e → ∃ b', b ≤ b' ∧ b' < n ∧ ((R a ^^^ R b' = r ∧ e = 1 <<< a ||| 1 <<< b') ∨ (2 < t ∧ ∃ c', b' < c' ∧ c' < n ∧ R a ^^^ R b' ^^^ R c' = r ∧ e = 1 <<< a ||| 1 <<< b' ||| 1 <<< c')) := by
  intro k
  induction k with
  | zero => intro b _ h; cases h
  | succ k ih =>
    intro b hb h
    by_cases q : R a ^^^ R b = r
    · rw [e2_s1 q] at h; exact ⟨b, Nat.le_refl _, by omega, Or.inl ⟨q, (Option.some.inj h).symm⟩⟩
    · rw [e2_s0 q] at h
      rcases or_some h with h | h
      · by_cases t2 : 2 < t
        · rw [if_pos t2] at h
          obtain ⟨c', h1, h2, h3⟩ := e3_some _ _ h
          exact ⟨b, Nat.le_refl _, by omega, Or.inr ⟨t2, c', by omega, by omega, h3⟩⟩
        · rw [if_neg t2] at h; cases h
      · obtain ⟨b', h1, h2, h3⟩ := ih (b + 1) (by omega) h
        exact ⟨b', by omega, h2, h3⟩
theorem e2_none {R : Nat → Nat} {r t n a : Nat} : ∀ (k b : Nat), b + k = n → e2 R r t n a k b = none → ∀ b', b ≤ b' → b' < n → R a ^^^ R b' ≠ r ∧ (2 < t → ∀ c', b' < c' → c' < n → R a ^^^ R b' ^^^ R c' ≠ r) := by
  intro k
  induction k with
  | zero => intro b hb _ b' h1 h2; omega
  | succ k ih =>
    intro b hb h b' h1 h2
    by_cases q : R a ^^^ R b = r
    · rw [e2_s1 q] at h; cases h
    · rw [e2_s0 q] at h
      obtain ⟨h3, h4⟩ := or_none h
      by_cases z : b' = b
      · subst z
        refine ⟨q, fun t2 c' h5 h6 => ?_⟩
        rw [if_pos t2] at h3
        exact e3_none _ _ h3 c' (by omega) (by omega)
      · exact ih (b + 1) (by omega) h4 b' (by omega) h2
theorem e1_some {R : Nat → Nat} {r t n e : Nat} : ∀ (k a : Nat), a + k = n → e1 R r t n k a = some e → ∃ a', a ≤ a' ∧ a' < n ∧ ((R a' = r ∧ e = 1 <<< a') ∨ (1 < t ∧ ∃ b', a' < b' ∧ b' < n ∧ ((R a' ^^^ R b' = r ∧ e = 1 <<< a' ||| 1 <<< b') ∨ (2 < t ∧ ∃ c', b' < c' ∧ c' < n ∧ R a' ^^^ R b' ^^^ R c' = r ∧ e = 1 <<< a' ||| 1 <<< b' ||| 1 <<< c')))) := by
  intro k
  induction k with
  | zero => intro a _ h; cases h
  | succ k ih =>
    intro a ha h
    by_cases q : R a = r
    · rw [e1_s1 q] at h; exact ⟨a, Nat.le_refl _, by omega, Or.inl ⟨q, (Option.some.inj h).symm⟩⟩
    · rw [e1_s0 q] at h
      rcases or_some h with h | h
      · by_cases t2 : 1 < t
        · rw [if_pos t2] at h
          obtain ⟨b', h1, h2, h3⟩ := e2_some _ _ (by omega) h
          exact ⟨a, Nat.le_refl _, by omega, Or.inr ⟨t2, b', by omega, h2, h3⟩⟩
        · rw [if_neg t2] at h; cases h
      · obtain ⟨a', h1, h2, h3⟩ := ih (a + 1) (by omega) h
        exact ⟨a', by omega, h2, h3⟩
theorem e1_none {R : Nat → Nat} {r t n : Nat} : ∀ (k a : Nat), a + k = n → e1 R r t n k a = none → ∀ a', a ≤ a' → a' < n → R a' ≠ r ∧ (1 < t → ∀ b', a' < b' → b' < n → R a' ^^^ R b' ≠ r ∧ (2 < t → ∀ c', b' < c' → c' < n → R a' ^^^ R b' ^^^ R c' ≠ r)) := by
  intro k
  induction k with
  | zero => intro a ha _ a' h1 h2; omega
  | succ k ih =>
    intro a ha h a' h1 h2
    by_cases q : R a = r
    · rw [e1_s1 q] at h; cases h
    · rw [e1_s0 q] at h
      obtain ⟨h3, h4⟩ := or_none h
      by_cases z : a' = a
      · subst z
        refine ⟨q, fun t2 b' h5 h6 => ?_⟩
        rw [if_pos t2] at h3
        exact e2_none _ _ (by omega) h3 b' (by omega) h6
      · exact ih (a + 1) (by omega) h4 a' (by omega) h2
/-! single bits -/
theorem rmd_bit (R : Nat → Nat) (a : Nat) : ∀ (k i s : Nat), zk_it (rmF R (1 <<< a)) k i s = if i ≤ a ∧ a < i + k then s ^^^ R a else s := by
  intro k
  induction k with
  | zero => intro i s; rw [if_neg (by omega)]; rfl
  | succ k ih =>
    intro i s
    rw [zk_it_s, ih]
    have hb : ((1 <<< a) >>> i &&& 1 = 1) ↔ i = a := by
      have h1 := zk_tb (1 <<< a) i
      rw [zk_1b a i] at h1
      have h2 := zk_b1 ((1 <<< a) >>> i)
      constructor
      · intro h; exact of_decide_eq_true (h1.mp (by omega))
      · intro h; have := h1.mpr (decide_eq_true h); omega
    unfold rmF
    by_cases q : i = a
    · subst q
      rw [if_pos (hb.mpr rfl), if_neg (by omega), if_pos (by omega)]
    · rw [if_neg (fun h => q (hb.mp h))]
      by_cases z : i + 1 ≤ a ∧ a < i + 1 + k
      · rw [if_pos z, if_pos (by omega)]
      · rw [if_neg z, if_neg (by omega)]
theorem rmd_1 {R : Nat → Nat} {n a : Nat} (h : a < n) : rmd R n (1 <<< a) = R a := by
  unfold rmd
  rw [rmd_bit, if_pos (by omega), Nat.zero_xor]
theorem or_xor {x a : Nat} (h : x.testBit a = false) : x ||| 1 <<< a = x ^^^ 1 <<< a := by
  apply Nat.eq_of_testBit_eq
  intro i
  rw [Nat.testBit_or, Nat.testBit_xor, zk_1b]
  by_cases q : i = a
  · subst q; rw [h, decide_eq_true rfl]; rfl
  · rw [decide_eq_false q, Bool.or_false, Bool.xor_false]
theorem pp_low : ∀ (k y z : Nat), pp k (y + 2 ^ k * z) = pp k y := by
  intro k
  induction k with
  | zero => intro y z; rfl
  | succ k ih =>
    intro y z
    show (y + 2 ^ (k + 1) * z) % 2 + pp k ((y + 2 ^ (k + 1) * z) / 2) = y % 2 + pp k (y / 2)
    have e : 2 ^ (k + 1) * z = 2 * (2 ^ k * z) := by rw [Nat.pow_succ, Nat.mul_comm (2 ^ k) 2, Nat.mul_assoc]
    rw [e, show (y + 2 * (2 ^ k * z)) / 2 = y / 2 + 2 ^ k * z by omega, ih]
    omega
theorem pp_z : ∀ k, pp k 0 = 0 := by
  intro k
  induction k with
  | zero => rfl
  | succ k ih => show 0 % 2 + pp k (0 / 2) = 0; rw [Nat.zero_div, ih]
/-- the top bit -/
theorem pp_1 {n a y : Nat} (ha : a < n) (hy : y < 2 ^ a) : pp n (1 <<< a ^^^ y) = pp n y + 1 ∧ 1 <<< a ^^^ y = 2 ^ a + y ∧ 1 <<< a ^^^ y < 2 ^ (a + 1) := by
  have e : 1 <<< a ^^^ y = 2 ^ a + y := by
    have h9 := Nat.two_pow_add_eq_or_of_lt hy 1
    rw [Nat.mul_one] at h9
    rw [h9, Nat.xor_comm, ← or_xor (Nat.testBit_lt_two_pow hy), Nat.or_comm, Nat.one_shiftLeft]
  have hp : 2 ^ a + y < 2 ^ (a + 1) := by rw [Nat.pow_succ]; omega
  refine ⟨?_, e, by rw [e]; exact hp⟩
  rw [e, show n = a + (1 + (n - a - 1)) by omega, pp_add a (1 + (n - a - 1)) (2 ^ a + y), pp_add a (1 + (n - a - 1)) y]
  rw [show 2 ^ a + y = y + 2 ^ a * 1 by omega, pp_low, Nat.div_eq_of_lt hy, pp_z, Nat.add_mul_div_left _ _ (Nat.two_pow_pos a), Nat.div_eq_of_lt hy, pp_add 1 (n - a - 1) (0 + 1)]
  rw [show (0 + 1) / 2 ^ 1 = 0 from rfl, pp_z]
  rfl
theorem pp_pick {n x : Nat} (hx : x < 2 ^ n) (h0 : x ≠ 0) : ∃ a y, a < n ∧ y < 2 ^ a ∧ x = 1 <<< a ^^^ y := by
  refine ⟨Nat.log2 x, x - 2 ^ Nat.log2 x, (Nat.log2_lt h0).mpr hx, ?_, ?_⟩
  · have h1 : x < 2 ^ (Nat.log2 x + 1) := Nat.lt_log2_self
    rw [Nat.pow_succ] at h1
    have := Nat.log2_self_le h0
    omega
  · have h1 : x < 2 ^ (Nat.log2 x + 1) := Nat.lt_log2_self
    rw [Nat.pow_succ] at h1
    have h2 := Nat.log2_self_le h0
    rw [(pp_1 (n := Nat.log2 x + 1) (a := Nat.log2 x) (y := x - 2 ^ Nat.log2 x) (by omega) (by omega)).2.1]
    omega
theorem one_pp (x : Nat) : one x = pp 31 x := by
  unfold one
  rw [on_pp, Nat.zero_add, Nat.shiftRight_zero]
theorem chk_all : ∀ q ∈ zk_pr, chk q.1 q.2 = true := by
  intro q hq
  simp only [zk_pr, List.mem_cons, List.not_mem_nil, or_false] at hq
  rcases hq with rfl | rfl | rfl | rfl | rfl | rfl | rfl | rfl | rfl | rfl
  · exact chk_11
  · exact chk_13
  · exact chk_19
  · exact chk_25
  · exact chk_37
  · exact chk_41
  · exact chk_47
  · exact chk_55
  · exact chk_59
  · exact chk_61
theorem n_31 {p n : Nat} (hp : (p, n) ∈ zk_pr) : n ≤ 31 := by rcases zk_n3 _ hp with h | h | h <;> (dsimp only at h; omega)
theorem atv_1 {p n a j : Nat} (h : a < n) : atv p n (1 <<< a) j = pw p (a * j % n) := by rw [atv_rmd, rmd_1 h]
theorem bit_of {a i : Nat} (h : i ≠ a) : (1 <<< a).testBit i = false := by rw [zk_1b, decide_eq_false h]
/-- what the search finds, the ways find -/
theorem ways_found {p n t wd e : Nat} (hp : (p, n) ∈ zk_pr) (t1 : 1 ≤ t) (t3 : t ≤ 3) (w : Nat) (h : e1 (rst (gnr p n t) (lgn p n t)) (rmd (rst (gnr p n t) (lgn p n t)) n wd) t n n 0 = some e) :
    ers p n (loc w p n t wd) = e ∧ bct e ≤ t ∧ rmd (rst (gnr p n t) (lgn p n t)) n e = rmd (rst (gnr p n t) (lgn p n t)) n wd ∧ e < 2 ^ n := by
  have n31 := n_31 hp
  have hk := chk_s (chk_all _ hp)
  dsimp only at hk
  have hS : ∀ e, rmd (rst (gnr p n t) (lgn p n t)) n e = rmd (rst (gnr p n t) (lgn p n t)) n wd → ∀ j, 1 ≤ j → j ≤ 2 * t → atv p n wd j = atv p n e j := fun e he j h1 h2 => by rw [syn_rem hp t1 t3 h1 h2, ← he, ← syn_rem hp t1 t3 h1 h2]
  have lt31 : ∀ {x a : Nat}, a < n → x < 2 ^ (a + 1) → x < 2 ^ n ∧ x < 2 ^ 31 := fun ha hx => ⟨Nat.lt_of_lt_of_le hx (Nat.pow_le_pow_right (by decide) (by omega)), Nat.lt_of_lt_of_le hx (Nat.pow_le_pow_right (by decide) (by omega))⟩
  obtain ⟨a, -, ha, h⟩ := e1_some n 0 (by omega) h
  have pa1 := pp_1 (n := 31) (a := a) (y := 0) (by omega) (Nat.two_pow_pos _)
  rw [Nat.xor_zero] at pa1
  rcases h with ⟨hr, rfl⟩ | ⟨t2, b, hab, hb, h⟩
  · have er : rmd (rst (gnr p n t) (lgn p n t)) n (1 <<< a) = rmd (rst (gnr p n t) (lgn p n t)) n wd := by rw [rmd_1 ha, hr]
    refine ⟨(hk a ha).1 t t1 t3 wd w (fun j h1 h2 => ?_), ?_, er, (lt31 ha pa1.2.2).1⟩
    · rw [hS _ er j h1 h2, atv_1 ha, cl_g _ _ _ _ h1 (by omega)]
    · rw [bct_one (lt31 ha pa1.2.2).2, one_pp, pa1.1, pp_z]; omega
  · have eab : 1 <<< a ||| 1 <<< b = 1 <<< b ^^^ 1 <<< a := by rw [or_xor (bit_of (by omega)), Nat.xor_comm]
    have ylt : 1 <<< a < 2 ^ b := Nat.lt_of_lt_of_le pa1.2.2 (Nat.pow_le_pow_right (by decide) (by omega))
    have pb1 := pp_1 (n := 31) (a := b) (y := 1 <<< a) (by omega) ylt
    rcases h with ⟨hr, rfl⟩ | ⟨t4, c, hbc, hc, hr, rfl⟩
    · have er : rmd (rst (gnr p n t) (lgn p n t)) n (1 <<< b ^^^ 1 <<< a) = rmd (rst (gnr p n t) (lgn p n t)) n wd := by rw [rmd_xor, rmd_1 ha, rmd_1 hb, Nat.xor_comm, hr]
      rw [eab]
      refine ⟨((hk b hb).2 a hab).1 t (by omega) t3 wd w (fun j h1 h2 => ?_), ?_, er, (lt31 hb pb1.2.2).1⟩
      · rw [hS _ er j h1 h2, atv_xor, atv_1 ha, atv_1 hb, pg_xor, cl_g _ _ _ _ h1 (by omega), cl_g _ _ _ _ h1 (by omega)]
      · rw [bct_one (lt31 hb pb1.2.2).2, one_pp, pb1.1, pa1.1, pp_z]; omega
    · have t33 : t = 3 := by omega
      have ylt2 : 1 <<< b ^^^ 1 <<< a < 2 ^ c := Nat.lt_of_lt_of_le pb1.2.2 (Nat.pow_le_pow_right (by decide) (by omega))
      have pc1 := pp_1 (n := 31) (a := c) (y := 1 <<< b ^^^ 1 <<< a) (by omega) ylt2
      have eabc : 1 <<< a ||| 1 <<< b ||| 1 <<< c = 1 <<< c ^^^ (1 <<< b ^^^ 1 <<< a) := by rw [eab, or_xor (Nat.testBit_lt_two_pow ylt2), Nat.xor_comm]
      have er : rmd (rst (gnr p n t) (lgn p n t)) n (1 <<< c ^^^ (1 <<< b ^^^ 1 <<< a)) = rmd (rst (gnr p n t) (lgn p n t)) n wd := by rw [rmd_xor, rmd_xor, rmd_1 ha, rmd_1 hb, rmd_1 hc, Nat.xor_comm, Nat.xor_comm (rst (gnr p n t) (lgn p n t) b), hr]
      rw [eabc]
      have hf := ((hk c hc).2 b hbc).2 a hab wd w
      rw [← t33, Nat.xor_assoc (1 <<< c)] at hf
      refine ⟨hf (fun j h1 h2 => ?_), ?_, er, (lt31 hc pc1.2.2).1⟩
      · rw [hS _ er j h1 h2, atv_xor, atv_xor, atv_1 ha, atv_1 hb, atv_1 hc, pg_xor, pg_xor, cl_g _ _ _ _ h1 (by omega), cl_g _ _ _ _ h1 (by omega), cl_g _ _ _ _ h1 (by omega), Nat.xor_assoc]
      · rw [bct_one (lt31 hc pc1.2.2).2, one_pp, pc1.1, pb1.1, pa1.1, pp_z]; omega
theorem ways_none {R : Nat → Nat} {n t r e : Nat} (n31 : n ≤ 31) (t3 : t ≤ 3) (h : e1 R r t n n 0 = none) (he : e < 2 ^ n) (hb : bct e ≤ t) (hr : rmd R n e = r) (e0 : e ≠ 0) : False := by
  have hn := e1_none n 0 (by omega) h
  have lt31 : ∀ {x a : Nat}, a ≤ 31 → x < 2 ^ a → x < 2 ^ 31 := fun ha hx => Nat.lt_of_lt_of_le hx (Nat.pow_le_pow_right (by decide) ha)
  rw [bct_one (lt31 n31 he), one_pp] at hb
  obtain ⟨a, y, ha, hy, rfl⟩ := pp_pick he e0
  have pa1 := (pp_1 (n := 31) (a := a) (y := y) (by omega) hy).1
  by_cases y0 : y = 0
  · subst y0
    rw [Nat.xor_zero, rmd_1 ha] at hr
    exact (hn a (Nat.zero_le _) ha).1 hr
  · obtain ⟨b, z, hb2, hz, rfl⟩ := pp_pick hy y0
    have pb1 := (pp_1 (n := 31) (a := b) (y := z) (by omega) hz).1
    by_cases z0 : z = 0
    · subst z0
      rw [Nat.xor_zero, rmd_xor, rmd_1 ha, rmd_1 (show b < n by omega), Nat.xor_comm] at hr
      exact ((hn b (Nat.zero_le _) (by omega)).2 (by omega) a hb2 ha).1 hr
    · obtain ⟨c, u, hc, hu, rfl⟩ := pp_pick hz z0
      have pc1 := (pp_1 (n := 31) (a := c) (y := u) (by omega) hu).1
      by_cases u0 : u = 0
      · subst u0
        rw [Nat.xor_zero, rmd_xor, rmd_xor, rmd_1 ha, rmd_1 (show b < n by omega), rmd_1 (show c < n by omega), Nat.xor_comm, Nat.xor_comm (R b)] at hr
        exact (((hn c (Nat.zero_le _) (by omega)).2 (by omega) b hc (by omega)).2 (by omega) a hb2 ha) hr
      · obtain ⟨d, v, hd, hv, rfl⟩ := pp_pick hu u0
        have pd1 := (pp_1 (n := 31) (a := d) (y := v) (by omega) hv).1
        omega
/-- the mending law -/
theorem mdd_eof {p n t : Nat} (hp : (p, n) ∈ zk_pr) (t1 : 1 ≤ t) (t3 : t ≤ 3) (w wd : Nat) : mdd w p n t wd = (eof (rst (gnr p n t) (lgn p n t)) t n wd).map (fun e => wd ^^^ e) := by
  have hg := fun x => rgt_rem (wd := x) hp t1 t3
  unfold mdd eof
  by_cases h0 : rmd (rst (gnr p n t) (lgn p n t)) n wd = 0
  · rw [if_pos ((hg wd).mpr h0), if_pos h0]
    show some wd = some (wd ^^^ 0)
    rw [Nat.xor_zero]
  · rw [if_neg (fun q => h0 ((hg wd).mp q)), if_neg h0]
    cases he : e1 (rst (gnr p n t) (lgn p n t)) (rmd (rst (gnr p n t) (lgn p n t)) n wd) t n n 0 with
    | some e =>
      obtain ⟨k1, k2, k3, k4⟩ := ways_found hp t1 t3 w he
      have hz : rgt p n t (wd ^^^ e) ≠ 0 := (hg _).mpr (by rw [rmd_xor, k3, Nat.xor_self])
      rw [k1, if_neg (by omega), if_neg hz]
      rfl
    | none =>
      show _ = none
      by_cases q1 : t < bct (ers p n (loc w p n t wd))
      · rw [if_pos q1]
      · rw [if_neg q1]
        by_cases q2 : rgt p n t (wd ^^^ ers p n (loc w p n t wd)) = 0
        · rw [if_pos q2]
        · exfalso
          have hr := (hg _).mp q2
          rw [rmd_xor] at hr
          have hr2 : rmd (rst (gnr p n t) (lgn p n t)) n (ers p n (loc w p n t wd)) = rmd (rst (gnr p n t) (lgn p n t)) n wd := by
            have h5 := congrArg (fun z => rmd (rst (gnr p n t) (lgn p n t)) n wd ^^^ z) hr
            dsimp only at h5
            rwa [← Nat.xor_assoc, Nat.xor_self, Nat.zero_xor, Nat.xor_zero] at h5
          refine ways_none (n_31 hp) t3 he (ers_lt p n _) (by omega) hr2 (fun e0 => h0 ?_)
          rw [← hr2, e0, rmd_0]
