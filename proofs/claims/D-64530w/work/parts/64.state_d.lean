/-! ===== the model's picture ===== -/
set_option maxRecDepth 100000
abbrev zk_w7 (g : G4) (hm : Nat) (A : Nat → Nat) (km bg p dg n t dep gn ck : Nat) (Ms Cs Ks Ds Rs Pp : List Nat) : va_W := [(hm, .inr (7, [.int (nI km), .int (nI bg), .int (nI p), .int (nI dg), .int (nI n), .int (nI t), .int (nI dep), .int (nI gn), .int (nI ck), .ref (A 0), .ref (A 1), .ref (A 2), .ref (A 3), .ref (A 4), .ref (A 5)])), (A 0, .inl (g.1, 4, .inl (zk_ia Ms))), (A 1, .inl (g.1, 4, .inl (zk_ia Cs))), (A 2, .inl (g.1, 16, .inl (zk_ia Ks))), (A 3, .inl (g.1, 4, .inl (zk_ia Ds))), (A 4, .inl (g.1, 31, .inl (zk_ia Rs))), (A 5, .inl (g.1, 32, .inl (zk_ia Pp)))]
def zk_kk (K : List (List Nat)) (Ks : List Nat) : Prop := Ks.length = 16 ∧ ∀ i j, i < 4 → j < 4 → Ks.getD (4 * i + j) 0 = mg K i j
def zk_wMB (g : G4) (hm : Nat) (st : zk_P) (km : Nat) (w : va_W) : Prop := ∃ (A : Nat → Nat) (Ks Ds Rs Pp : List Nat), zk_kk st.2.2.2.2.2 Ks ∧ Ds.length = 4 ∧ Rs.length = 31 ∧ Pp.length = 32 ∧ (∀ i, i < zk_nn st.1 → Rs.getD i 0 = rst (gnr st.1 (zk_nn st.1) st.2.1) (lgn st.1 (zk_nn st.1) st.2.1) i) ∧ w = zk_w7 g hm A km 1 st.1 (mdg st.1) (zk_nn st.1) st.2.1 st.2.2.1 (gnr st.1 (zk_nn st.1) st.2.1) (lgn st.1 (zk_nn st.1) st.2.1) st.2.2.2.1 st.2.2.2.2.1 Ks Ds Rs Pp
def zk_wMU (g : G4) (hm : Nat) (km : Nat) (w : va_W) : Prop := ∃ (A : Nat → Nat) (Ms Cs Ks Ds Rs Pp : List Nat), (Ms.length = 4 ∧ Cs.length = 4 ∧ Ks.length = 16 ∧ Ds.length = 4 ∧ Rs.length = 31 ∧ Pp.length = 32) ∧ w = zk_w7 g hm A km 0 0 0 0 0 0 0 0 Ms Cs Ks Ds Rs Pp
def zk_wM (g : G4) (hm : Nat) (st : Option zk_P) (km : Nat) (w : va_W) : Prop := match st with
  | none => zk_wMU g hm km w
  | some s => zk_wMB g hm s km w
theorem zk_wM_w {g : G4} {hm : Nat} {st : Option zk_P} {km : Nat} {w : va_W} (h : zk_wM g hm st km w) (hok : ∀ s, st = some s → zk_okP s) : ∃ (A : Nat → Nat) (bg p dg n t dep gn ck : Nat) (Ms Cs Ks Ds Rs Pp : List Nat), (Ms.length = 4 ∧ Cs.length = 4 ∧ Ks.length = 16 ∧ Ds.length = 4 ∧ Rs.length = 31 ∧ Pp.length = 32) ∧ w = zk_w7 g hm A km bg p dg n t dep gn ck Ms Cs Ks Ds Rs Pp ∧ ∀ km', zk_wM g hm st km' (zk_w7 g hm A km' bg p dg n t dep gn ck Ms Cs Ks Ds Rs Pp) := by
  cases st with
  | none =>
    obtain ⟨A, Ms, Cs, Ks, Ds, Rs, Pp, h1, rfl⟩ := h
    exact ⟨A, 0, 0, 0, 0, 0, 0, 0, 0, Ms, Cs, Ks, Ds, Rs, Pp, h1, rfl, fun km' => ⟨A, Ms, Cs, Ks, Ds, Rs, Pp, h1, rfl⟩⟩
  | some s =>
    obtain ⟨A, Ks, Ds, Rs, Pp, h1, h2, h3, h4, h5, rfl⟩ := h
    obtain ⟨o1, o2, o3, o6, o7, o8⟩ := hok s rfl
    exact ⟨A, _, _, _, _, _, _, _, _, _, _, Ks, Ds, Rs, Pp, ⟨o6, o7, h1.1, h2, h3, h4⟩, rfl, fun km' => ⟨A, Ks, Ds, Rs, Pp, h1, h2, h3, h4, h5, rfl⟩⟩
theorem zk_wM_0 {g : G4} {hm : Nat} {st : Option zk_P} {km : Nat} {w : va_W} (h : zk_wM g hm st km w) : ∃ fs, w[0]? = some (hm, .inr (7, fs)) := by
  cases st with
  | none => obtain ⟨A, Ms, Cs, Ks, Ds, Rs, Pp, h1, rfl⟩ := h; exact ⟨_, rfl⟩
  | some s => obtain ⟨A, Ks, Ds, Rs, Pp, h1, h2, h3, h4, h5, rfl⟩ := h; exact ⟨_, rfl⟩
theorem fm_0 {l : Launch} {y : MethodName} {ws : List Cond} {rm : Room} {D : va_G} {g : G4} {As : List Value} {x0 x1 x2 x3 x4 x5 x6 : Nat × va_E} {Qx Qx' : Option Value → va_W → Prop} (hM : zk_M l y ws rm D g As [x0] Qx) (hq : ∀ v w1, Qx v w1 → ∃ y0, w1 = [y0] ∧ Qx' v [y0, x1, x2, x3, x4, x5, x6]) : zk_M l y ws rm D g As [x0, x1, x2, x3, x4, x5, x6] Qx' :=
  zk_M.frame (wr := [x1, x2, x3, x4, x5, x6]) hM [0] [1, 2, 3, 4, 5, 6] rfl rfl (by decide +kernel) (by decide +kernel) (by decide +kernel) (fun v w1 h => by obtain ⟨y0, rfl, h2⟩ := hq v w1 h; exact ⟨_, h2, [6, 0, 1, 2, 3, 4, 5], by decide +kernel, rfl⟩)
set_option maxHeartbeats 4000000 in
theorem mn_length (l : Launch) (D : va_G) (g : G4) (hm km : Nat) (st : zk_P) (w : va_W) (hB : zk_wMB g hm st km w) (hok : zk_okP st)  : zk_M l yX8_length (ws_ yX8_length cX8_length 1 (some .int)) (zk_R 0 0 0) D g [.ref hm] w (fun r_ w2 => r_ = some (.int (nI (zk_nn st.1))) ∧ zk_wMB g hm (st) 0 w2) := by
  obtain ⟨A, Ks, Ds, Rs, Pp, hK, hD, hRl, hPl, hR, rfl⟩ := hB
  have hok0 := hok
  obtain ⟨o1, ⟨o2, o3⟩, ⟨o4, o5⟩, o6, o7, o8, o9, o10, o11, o12, o13⟩ := hok0
  have hn9 := zk_okn hok
  exact fm_0 (m8_length l D g hm (A 0) (A 1) (A 2) (A 3) (A 4) (A 5) km st.1 (mdg st.1) (zk_nn st.1) st.2.1 st.2.2.1 (gnr st.1 (zk_nn st.1) st.2.1) (lgn st.1 (zk_nn st.1) st.2.1)) (fun v w1 hQ => by
    obtain ⟨rfl, rfl⟩ := hQ
    exact ⟨_, rfl, rfl, A, Ks, Ds, Rs, Pp, hK, hD, hRl, hPl, hR, rfl⟩)
set_option maxHeartbeats 4000000 in
theorem mn_gen (l : Launch) (D : va_G) (g : G4) (hm km : Nat) (st : zk_P) (w : va_W) (hB : zk_wMB g hm st km w) (hok : zk_okP st)  : zk_M l yX8_generator (ws_ yX8_generator cX8_generator 1 (some .int)) (zk_R 0 0 0) D g [.ref hm] w (fun r_ w2 => r_ = some (.int (nI (gnr st.1 (zk_nn st.1) st.2.1))) ∧ zk_wMB g hm (st) 0 w2) := by
  obtain ⟨A, Ks, Ds, Rs, Pp, hK, hD, hRl, hPl, hR, rfl⟩ := hB
  have hok0 := hok
  obtain ⟨o1, ⟨o2, o3⟩, ⟨o4, o5⟩, o6, o7, o8, o9, o10, o11, o12, o13⟩ := hok0
  have hn9 := zk_okn hok
  exact fm_0 (m8_gen l D g hm (A 0) (A 1) (A 2) (A 3) (A 4) (A 5) km st.1 (mdg st.1) (zk_nn st.1) st.2.1 st.2.2.1 (gnr st.1 (zk_nn st.1) st.2.1) (lgn st.1 (zk_nn st.1) st.2.1)) (fun v w1 hQ => by
    obtain ⟨rfl, rfl⟩ := hQ
    exact ⟨_, rfl, rfl, A, Ks, Ds, Rs, Pp, hK, hD, hRl, hPl, hR, rfl⟩)
set_option maxHeartbeats 4000000 in
theorem mn_power (l : Launch) (D : va_G) (g : G4) (hm km : Nat) (st : zk_P) (w : va_W) (hB : zk_wMB g hm st km w) (hok : zk_okP st) (x : Nat) (x31 : x < 2 ^ 31) : zk_M l yX8_power (ws_ yX8_power cX8_power 2 (some .int)) (zk_R 2 0 0) D g [.ref hm, .int (nI x)] w (fun r_ w2 => r_ = some (.int (nI (pw st.1 (x % zk_nn st.1)))) ∧ zk_wMB g hm (st) 0 w2) := by
  obtain ⟨A, Ks, Ds, Rs, Pp, hK, hD, hRl, hPl, hR, rfl⟩ := hB
  have hok0 := hok
  obtain ⟨o1, ⟨o2, o3⟩, ⟨o4, o5⟩, o6, o7, o8, o9, o10, o11, o12, o13⟩ := hok0
  have hn9 := zk_okn hok
  exact fm_0 (m8_power l D g hm (A 0) (A 1) (A 2) (A 3) (A 4) (A 5) km st.1 (zk_nn st.1) st.2.1 st.2.2.1 (gnr st.1 (zk_nn st.1) st.2.1) (lgn st.1 (zk_nn st.1) st.2.1) o1 x x31) (fun v w1 hQ => by
    obtain ⟨rfl, rfl⟩ := hQ
    exact ⟨_, rfl, rfl, A, Ks, Ds, Rs, Pp, hK, hD, hRl, hPl, hR, rfl⟩)
set_option maxHeartbeats 4000000 in
theorem mn_log (l : Launch) (D : va_G) (g : G4) (hm km : Nat) (st : zk_P) (w : va_W) (hB : zk_wMB g hm st km w) (hok : zk_okP st) (x : Nat) (x1 : 1 ≤ x) (xn_ : x ≤ zk_nn st.1) : zk_M l yX8_log (ws_ yX8_log cX8_log 3 (some .int)) (zk_R 2 0 0) D g [.ref hm, .int (nI x)] w (fun r_ w2 => r_ = some (.int (nI (lg st.1 x))) ∧ zk_wMB g hm (st) 0 w2) := by
  obtain ⟨A, Ks, Ds, Rs, Pp, hK, hD, hRl, hPl, hR, rfl⟩ := hB
  have hok0 := hok
  obtain ⟨o1, ⟨o2, o3⟩, ⟨o4, o5⟩, o6, o7, o8, o9, o10, o11, o12, o13⟩ := hok0
  have hn9 := zk_okn hok
  exact fm_0 (m8_log l D g hm (A 0) (A 1) (A 2) (A 3) (A 4) (A 5) km st.1 (zk_nn st.1) st.2.1 st.2.2.1 (gnr st.1 (zk_nn st.1) st.2.1) (lgn st.1 (zk_nn st.1) st.2.1) o1 x x1 xn_) (fun v w1 hQ => by
    obtain ⟨rfl, rfl⟩ := hQ
    exact ⟨_, rfl, rfl, A, Ks, Ds, Rs, Pp, hK, hD, hRl, hPl, hR, rfl⟩)
set_option maxHeartbeats 4000000 in
theorem mn_times (l : Launch) (D : va_G) (g : G4) (hm km : Nat) (st : zk_P) (w : va_W) (hB : zk_wMB g hm st km w) (hok : zk_okP st) (a b : Nat) (an : a ≤ zk_nn st.1) (bn : b ≤ zk_nn st.1) : zk_M l yX8_times (ws_ yX8_times cX8_times 3 (some .int)) (zk_R 1 0 0) D g [.ref hm, .int (nI a), .int (nI b)] w (fun r_ w2 => r_ = some (.int (nI (gm st.1 a b))) ∧ zk_wMB g hm (st) 0 w2) := by
  obtain ⟨A, Ks, Ds, Rs, Pp, hK, hD, hRl, hPl, hR, rfl⟩ := hB
  have hok0 := hok
  obtain ⟨o1, ⟨o2, o3⟩, ⟨o4, o5⟩, o6, o7, o8, o9, o10, o11, o12, o13⟩ := hok0
  have hn9 := zk_okn hok
  exact fm_0 (m8_times l D g hm (A 0) (A 1) (A 2) (A 3) (A 4) (A 5) km st.1 (zk_nn st.1) st.2.1 st.2.2.1 (gnr st.1 (zk_nn st.1) st.2.1) (lgn st.1 (zk_nn st.1) st.2.1) o1 a b an bn) (fun v w1 hQ => by
    obtain ⟨rfl, rfl⟩ := hQ
    exact ⟨_, rfl, rfl, A, Ks, Ds, Rs, Pp, hK, hD, hRl, hPl, hR, rfl⟩)
theorem fm_01 {l : Launch} {y : MethodName} {ws : List Cond} {rm : Room} {D : va_G} {g : G4} {As : List Value} {x0 x1 x2 x3 x4 x5 x6 : Nat × va_E} {Qx Qx' : Option Value → va_W → Prop} (hM : zk_M l y ws rm D g As [x0, x1] Qx) (hq : ∀ v w1, Qx v w1 → ∃ y0 y1, w1 = [y0, y1] ∧ Qx' v [y0, y1, x2, x3, x4, x5, x6]) : zk_M l y ws rm D g As [x0, x1, x2, x3, x4, x5, x6] Qx' :=
  zk_M.frame (wr := [x2, x3, x4, x5, x6]) hM [0, 1] [2, 3, 4, 5, 6] rfl rfl (by decide +kernel) (by decide +kernel) (by decide +kernel) (fun v w1 h => by obtain ⟨y0, y1, rfl, h2⟩ := hq v w1 h; exact ⟨_, h2, [5, 6, 0, 1, 2, 3, 4], by decide +kernel, rfl⟩)
set_option maxHeartbeats 4000000 in
theorem mn_put (l : Launch) (D : va_G) (g : G4) (hm km : Nat) (st : zk_P) (w : va_W) (hB : zk_wMB g hm st km w) (hok : zk_okP st) (i b : Nat) (hi : i < st.2.2.1 * kdn st.1 st.2.1) (b1_ : b ≤ 1) : zk_M l yX8_put (ws_ yX8_put cX8_put 5 none) (zk_R 1 0 0) D g [.ref hm, .int (nI i), .int (nI b)] w (fun r_ w2 => r_ = none ∧ zk_wMB g hm ((st.1, st.2.1, st.2.2.1, st.2.2.2.1.set (i / kdn st.1 st.2.1) (putw (st.2.2.2.1.getD (i / kdn st.1 st.2.1) 0) (i % kdn st.1 st.2.1) b), st.2.2.2.2.1, st.2.2.2.2.2)) 0 w2) := by
  obtain ⟨A, Ks, Ds, Rs, Pp, hK, hD, hRl, hPl, hR, rfl⟩ := hB
  have hok0 := hok
  obtain ⟨o1, ⟨o2, o3⟩, ⟨o4, o5⟩, o6, o7, o8, o9, o10, o11, o12, o13⟩ := hok0
  have hn9 := zk_okn hok
  have ep : puto (st.2.2.2.1.getD (i / (zk_nn st.1 - lgn st.1 (zk_nn st.1) st.2.1)) 0) (i % (zk_nn st.1 - lgn st.1 (zk_nn st.1) st.2.1)) b = putw (st.2.2.2.1.getD (i / (zk_nn st.1 - lgn st.1 (zk_nn st.1) st.2.1)) 0) (i % (zk_nn st.1 - lgn st.1 (zk_nn st.1) st.2.1)) b := put_eq (zk_p31 (o9 _) (by omega)) (Nat.lt_of_lt_of_le (Nat.mod_lt _ (by omega)) (by omega)) b1_
  exact fm_01 ((by have h9 := m8_put l D g hm (A 0) (A 1) (A 2) (A 3) (A 4) (A 5) km st.1 (mdg st.1) (zk_nn st.1) st.2.1 st.2.2.1 (gnr st.1 (zk_nn st.1) st.2.1) (lgn st.1 (zk_nn st.1) st.2.1) st.2.2.2.1 o6 o5 (by omega) (by omega) i b (show i < st.2.2.1 * (zk_nn st.1 - lgn st.1 (zk_nn st.1) st.2.1) from hi) b1_; rw [ep] at h9; exact h9)) (fun v w1 hQ => by
    obtain ⟨rfl, rfl⟩ := hQ
    exact ⟨_, _, rfl, rfl, A, Ks, Ds, Rs, Pp, hK, hD, hRl, hPl, hR, rfl⟩)
set_option maxHeartbeats 4000000 in
theorem mn_get (l : Launch) (D : va_G) (g : G4) (hm km : Nat) (st : zk_P) (w : va_W) (hB : zk_wMB g hm st km w) (hok : zk_okP st) (i : Nat) (hi : i < st.2.2.1 * kdn st.1 st.2.1) : zk_M l yX8_get (ws_ yX8_get cX8_get 2 (some .int)) (zk_R 1 0 0) D g [.ref hm, .int (nI i)] w (fun r_ w2 => r_ = some (.int (nI (st.2.2.2.1.getD (i / kdn st.1 st.2.1) 0 >>> (i % kdn st.1 st.2.1) &&& 1))) ∧ zk_wMB g hm (st) 0 w2) := by
  obtain ⟨A, Ks, Ds, Rs, Pp, hK, hD, hRl, hPl, hR, rfl⟩ := hB
  have hok0 := hok
  obtain ⟨o1, ⟨o2, o3⟩, ⟨o4, o5⟩, o6, o7, o8, o9, o10, o11, o12, o13⟩ := hok0
  have hn9 := zk_okn hok
  exact fm_01 (m8_get l D g hm (A 0) (A 1) (A 2) (A 3) (A 4) (A 5) km st.1 (mdg st.1) (zk_nn st.1) st.2.1 st.2.2.1 (gnr st.1 (zk_nn st.1) st.2.1) (lgn st.1 (zk_nn st.1) st.2.1) st.2.2.2.1 o6 o5 (by omega) (by omega) (fun j => zk_p31 (o9 j) (by omega)) i (show i < st.2.2.1 * (zk_nn st.1 - lgn st.1 (zk_nn st.1) st.2.1) from hi)) (fun v w1 hQ => by
    obtain ⟨rfl, rfl⟩ := hQ
    exact ⟨_, _, rfl, rfl, A, Ks, Ds, Rs, Pp, hK, hD, hRl, hPl, hR, rfl⟩)
theorem fm_02 {l : Launch} {y : MethodName} {ws : List Cond} {rm : Room} {D : va_G} {g : G4} {As : List Value} {x0 x1 x2 x3 x4 x5 x6 : Nat × va_E} {Qx Qx' : Option Value → va_W → Prop} (hM : zk_M l y ws rm D g As [x0, x2] Qx) (hq : ∀ v w1, Qx v w1 → ∃ y0 y2, w1 = [y0, y2] ∧ Qx' v [y0, x1, y2, x3, x4, x5, x6]) : zk_M l y ws rm D g As [x0, x1, x2, x3, x4, x5, x6] Qx' :=
  zk_M.frame (wr := [x1, x3, x4, x5, x6]) hM [0, 2] [1, 3, 4, 5, 6] rfl rfl (by decide +kernel) (by decide +kernel) (by decide +kernel) (fun v w1 h => by obtain ⟨y0, y2, rfl, h2⟩ := hq v w1 h; exact ⟨_, h2, [5, 0, 6, 1, 2, 3, 4], by decide +kernel, rfl⟩)
set_option maxHeartbeats 4000000 in
theorem mn_bit (l : Launch) (D : va_G) (g : G4) (hm km : Nat) (st : zk_P) (w : va_W) (hB : zk_wMB g hm st km w) (hok : zk_okP st) (i : Nat) (hi : i < st.2.2.1 * zk_nn st.1) : zk_M l yX8_bit (ws_ yX8_bit cX8_bit 2 (some .int)) (zk_R 1 0 0) D g [.ref hm, .int (nI i)] w (fun r_ w2 => r_ = some (.int (nI (st.2.2.2.2.1.getD (i % st.2.2.1) 0 >>> (i / st.2.2.1) &&& 1))) ∧ zk_wMB g hm (st) 0 w2) := by
  obtain ⟨A, Ks, Ds, Rs, Pp, hK, hD, hRl, hPl, hR, rfl⟩ := hB
  have hok0 := hok
  obtain ⟨o1, ⟨o2, o3⟩, ⟨o4, o5⟩, o6, o7, o8, o9, o10, o11, o12, o13⟩ := hok0
  have hn9 := zk_okn hok
  exact fm_02 (m8_bit l D g hm (A 0) (A 1) (A 2) (A 3) (A 4) (A 5) km st.1 (mdg st.1) (zk_nn st.1) st.2.1 st.2.2.1 (gnr st.1 (zk_nn st.1) st.2.1) (lgn st.1 (zk_nn st.1) st.2.1) st.2.2.2.2.1 o7 o5 o4 (by omega) (fun j => zk_p31 (o10 j) (by omega)) i hi) (fun v w1 hQ => by
    obtain ⟨rfl, rfl⟩ := hQ
    exact ⟨_, _, rfl, rfl, A, Ks, Ds, Rs, Pp, hK, hD, hRl, hPl, hR, rfl⟩)
set_option maxHeartbeats 4000000 in
theorem mn_burst (l : Launch) (D : va_G) (g : G4) (hm km : Nat) (st : zk_P) (w : va_W) (hB : zk_wMB g hm st km w) (hok : zk_okP st) (i m : Nat) (hi : i < st.2.2.1 * zk_nn st.1) (hm_ : m ≤ st.2.2.1 * zk_nn st.1 - i) (m1 : 1 ≤ m) (m124 : m ≤ 124) : zk_M l yX8_burst (ws_ yX8_burst cX8_burst 5 none) (zk_R 1 0 0) D g [.ref hm, .int (nI i), .int (nI m)] w (fun r_ w2 => r_ = none ∧ zk_wMB g hm ((st.1, st.2.1, st.2.2.1, st.2.2.2.1, zk_it (flF st.2.2.1) m i st.2.2.2.2.1, st.2.2.2.2.2)) 0 w2) := by
  obtain ⟨A, Ks, Ds, Rs, Pp, hK, hD, hRl, hPl, hR, rfl⟩ := hB
  have hok0 := hok
  obtain ⟨o1, ⟨o2, o3⟩, ⟨o4, o5⟩, o6, o7, o8, o9, o10, o11, o12, o13⟩ := hok0
  have hn9 := zk_okn hok
  exact fm_02 (m8_burst l D g hm (A 0) (A 1) (A 2) (A 3) (A 4) (A 5) km st.1 (mdg st.1) (zk_nn st.1) st.2.1 st.2.2.1 (gnr st.1 (zk_nn st.1) st.2.1) (lgn st.1 (zk_nn st.1) st.2.1) st.2.2.2.2.1 o7 o5 o4 (by omega) i m hi hm_ m1 m124) (fun v w1 hQ => by
    obtain ⟨rfl, rfl⟩ := hQ
    exact ⟨_, _, rfl, rfl, A, Ks, Ds, Rs, Pp, hK, hD, hRl, hPl, hR, rfl⟩)
set_option maxHeartbeats 4000000 in
theorem mn_noise (l : Launch) (D : va_G) (g : G4) (hm km : Nat) (st : zk_P) (w : va_W) (hB : zk_wMB g hm st km w) (hok : zk_okP st) (seed rate : Int32) (hr_ : nI 0 ≤ rate ∧ rate ≤ nI 1000) : zk_M l yX8_noise (ws_ yX8_noise cX8_noise 6 (some .int)) (zk_R 1 0 0) D g [.ref hm, .int seed, .int rate] w (fun r_ w2 => r_ = some (.int (nI (zk_it (nzF st.2.2.1 rate) (st.2.2.1 * zk_nn st.1) 0 (seed, st.2.2.2.2.1, 0)).2.2)) ∧ zk_wMB g hm ((st.1, st.2.1, st.2.2.1, st.2.2.2.1, (zk_it (nzF st.2.2.1 rate) (st.2.2.1 * zk_nn st.1) 0 (seed, st.2.2.2.2.1, 0)).2.1, st.2.2.2.2.2)) 0 w2) := by
  obtain ⟨A, Ks, Ds, Rs, Pp, hK, hD, hRl, hPl, hR, rfl⟩ := hB
  have hok0 := hok
  obtain ⟨o1, ⟨o2, o3⟩, ⟨o4, o5⟩, o6, o7, o8, o9, o10, o11, o12, o13⟩ := hok0
  have hn9 := zk_okn hok
  exact fm_02 (m8_noise l D g hm (A 0) (A 1) (A 2) (A 3) (A 4) (A 5) km st.1 (mdg st.1) (zk_nn st.1) st.2.1 st.2.2.1 (gnr st.1 (zk_nn st.1) st.2.1) (lgn st.1 (zk_nn st.1) st.2.1) st.2.2.2.2.1 o7 o5 o4 (by omega) seed rate hr_) (fun v w1 hQ => by
    obtain ⟨rfl, rfl⟩ := hQ
    exact ⟨_, _, rfl, rfl, A, Ks, Ds, Rs, Pp, hK, hD, hRl, hPl, hR, rfl⟩)
set_option maxHeartbeats 4000000 in
theorem mn_synd (l : Launch) (D : va_G) (g : G4) (hm km : Nat) (st : zk_P) (w : va_W) (hB : zk_wMB g hm st km w) (hok : zk_okP st) (v j : Nat) (hv_ : v < st.2.2.1) (j1_ : 1 ≤ j) (j2_ : j ≤ 2 * st.2.1) : zk_M l yX8_syndrome (ws_ yX8_syndrome cX8_syndrome 5 (some .int)) (zk_R 2 0 0) D g [.ref hm, .int (nI v), .int (nI j)] w (fun r_ w2 => r_ = some (.int (nI (atv st.1 (zk_nn st.1) (st.2.2.2.2.1.getD v 0) j))) ∧ zk_wMB g hm (st) 0 w2) := by
  obtain ⟨A, Ks, Ds, Rs, Pp, hK, hD, hRl, hPl, hR, rfl⟩ := hB
  have hok0 := hok
  obtain ⟨o1, ⟨o2, o3⟩, ⟨o4, o5⟩, o6, o7, o8, o9, o10, o11, o12, o13⟩ := hok0
  have hn9 := zk_okn hok
  exact fm_02 ((by have h9 := m8_synd l D g hm (A 0) (A 1) (A 2) (A 3) (A 4) (A 5) km st.1 (zk_nn st.1) st.2.1 st.2.2.1 (gnr st.1 (zk_nn st.1) st.2.1) (lgn st.1 (zk_nn st.1) st.2.1) o1 st.2.2.2.2.1 o7 (fun j => zk_p31 (o10 j) (by omega)) o5 o3 v j hv_ j1_ j2_; rw [atv_sof] at h9; exact h9)) (fun v w1 hQ => by
    obtain ⟨rfl, rfl⟩ := hQ
    exact ⟨_, _, rfl, rfl, A, Ks, Ds, Rs, Pp, hK, hD, hRl, hPl, hR, rfl⟩)
theorem zk_eno_lt {st : zk_P} (hok : zk_okP st) {x : Nat} (hx : x < 2 ^ kdn st.1 st.2.1) : eno (rst (gnr st.1 (zk_nn st.1) st.2.1) (lgn st.1 (zk_nn st.1) st.2.1)) (zk_nn st.1) (lgn st.1 (zk_nn st.1) st.2.1) x < 2 ^ zk_nn st.1 := by
  obtain ⟨g1, g2, g3, g4⟩ := rst_lo _ hok.1 st.2.1 (by have := hok.2.1; omega) hok.2.1.1
  have hn9 := zk_okn hok
  dsimp only at g1 g2 g3 g4
  rw [enc_eno hok.1 hok.2.1.1 hok.2.1.2 (by exact hx)]
  exact enc_lt (k := kdn st.1 st.2.1) (by omega) g3 g4 hx
theorem fm_0125 {l : Launch} {y : MethodName} {ws : List Cond} {rm : Room} {D : va_G} {g : G4} {As : List Value} {x0 x1 x2 x3 x4 x5 x6 : Nat × va_E} {Qx Qx' : Option Value → va_W → Prop} (hM : zk_M l y ws rm D g As [x0, x1, x2, x5] Qx) (hq : ∀ v w1, Qx v w1 → ∃ y0 y1 y2 y5, w1 = [y0, y1, y2, y5] ∧ Qx' v [y0, y1, y2, x3, x4, y5, x6]) : zk_M l y ws rm D g As [x0, x1, x2, x3, x4, x5, x6] Qx' :=
  zk_M.frame (wr := [x3, x4, x6]) hM [0, 1, 2, 5] [3, 4, 6] rfl rfl (by decide +kernel) (by decide +kernel) (by decide +kernel) (fun v w1 h => by obtain ⟨y0, y1, y2, y5, rfl, h2⟩ := hq v w1 h; exact ⟨_, h2, [3, 4, 5, 0, 1, 6, 2], by decide +kernel, rfl⟩)
set_option maxHeartbeats 4000000 in
theorem mn_enc (l : Launch) (D : va_G) (g : G4) (hm km : Nat) (st : zk_P) (w : va_W) (hB : zk_wMB g hm st km w) (hok : zk_okP st)  : zk_M l yX8_encode (ws_ yX8_encode cX8_encode 4 (some .int)) (zk_R 1 0 0) D g [.ref hm] w (fun r_ w2 => r_ = some (.int (nI (zk_it (noF (gnr st.1 (zk_nn st.1) st.2.1) (zk_nn st.1 - kdn st.1 st.2.1) (zk_nn st.1) st.2.2.2.1) st.2.2.1 0 0))) ∧ zk_wMB g hm ((st.1, st.2.1, st.2.2.1, st.2.2.2.1, zk_it (ncF (gnr st.1 (zk_nn st.1) st.2.1) (zk_nn st.1 - kdn st.1 st.2.1) (zk_nn st.1) st.2.2.2.1) st.2.2.1 0 st.2.2.2.2.1, st.2.2.2.2.2)) 0 w2) := by
  obtain ⟨A, Ks, Ds, Rs, Pp, hK, hD, hRl, hPl, hR, rfl⟩ := hB
  have hok0 := hok
  obtain ⟨o1, ⟨o2, o3⟩, ⟨o4, o5⟩, o6, o7, o8, o9, o10, o11, o12, o13⟩ := hok0
  have hn9 := zk_okn hok
  have ek : (zk_nn st.1 - kdn st.1 st.2.1) = lgn st.1 (zk_nn st.1) st.2.1 := by omega
  have k9 : kdn st.1 st.2.1 = zk_nn st.1 - lgn st.1 (zk_nn st.1) st.2.1 := rfl
  have e0 : ∀ j, eno (rst (gnr st.1 (zk_nn st.1) st.2.1) (lgn st.1 (zk_nn st.1) st.2.1)) (zk_nn st.1) (lgn st.1 (zk_nn st.1) st.2.1) (st.2.2.2.1.getD j 0) = enc (gnr st.1 (zk_nn st.1) st.2.1) (lgn st.1 (zk_nn st.1) st.2.1) (zk_nn st.1) (st.2.2.2.1.getD j 0) := fun j => enc_eno o1 o2 o3 (by rw [← k9]; exact o9 j)
  have el : ∀ j, enc (gnr st.1 (zk_nn st.1) st.2.1) (lgn st.1 (zk_nn st.1) st.2.1) (zk_nn st.1) (st.2.2.2.1.getD j 0) < 2 ^ 31 := fun j => by rw [← e0]; exact zk_p31 (zk_eno_lt hok (o9 j)) (by omega)
  have eC : mcF (rst (gnr st.1 (zk_nn st.1) st.2.1) (lgn st.1 (zk_nn st.1) st.2.1)) (zk_nn st.1) (lgn st.1 (zk_nn st.1) st.2.1) st.2.2.2.1 = ncF (gnr st.1 (zk_nn st.1) st.2.1) (zk_nn st.1 - kdn st.1 st.2.1) (zk_nn st.1) st.2.2.2.1 := by
    funext j c; unfold mcF ncF; rw [e0, ek]
  have eN : moF (rst (gnr st.1 (zk_nn st.1) st.2.1) (lgn st.1 (zk_nn st.1) st.2.1)) (zk_nn st.1) (lgn st.1 (zk_nn st.1) st.2.1) st.2.2.2.1 = noF (gnr st.1 (zk_nn st.1) st.2.1) (zk_nn st.1 - kdn st.1 st.2.1) (zk_nn st.1) st.2.2.2.1 := by
    funext j c; unfold moF noF; rw [e0, ek, bct_one (el j)]
  exact fm_0125 ((by have h9 := m8_enc l D g hm (A 0) (A 1) (A 2) (A 3) (A 4) (A 5) km st.1 (mdg st.1) (zk_nn st.1) st.2.1 st.2.2.1 (gnr st.1 (zk_nn st.1) st.2.1) (lgn st.1 (zk_nn st.1) st.2.1) Rs hRl (rst (gnr st.1 (zk_nn st.1) st.2.1) (lgn st.1 (zk_nn st.1) st.2.1)) hR (by omega) st.2.2.2.1 o6 o5 (by omega) (fun j => zk_p31 (zk_shl_lt (d := lgn st.1 (zk_nn st.1) st.2.1) (o9 j)) (by omega)) (fun j => zk_p31 (zk_eno_lt hok (o9 j)) (by omega)) st.2.2.2.2.1 o7; rw [eC, eN] at h9; exact h9)) (fun v w1 hQ => by
    obtain ⟨rfl, rfl⟩ := hQ
    exact ⟨_, _, _, _, rfl, rfl, A, Ks, Ds, Rs, Pp, hK, hD, hRl, hPl, hR, rfl⟩)
theorem zk_it_sv (C : List Nat) (sl : Nat) : ∀ (k i : Nat) (Ks : List Nat), i + k ≤ 4 → Ks.length = 16 → sl < 4 → (zk_it (svF sl C) k i Ks).length = 16 ∧ ∀ q, (zk_it (svF sl C) k i Ks).getD q 0 = if 4 * sl + i ≤ q ∧ q < 4 * sl + i + k then C.getD (q - 4 * sl) 0 else Ks.getD q 0 := by
  intro k
  induction k with
  | zero => intro i Ks h1 h2 h3; exact ⟨h2, fun q => by rw [if_neg (by omega)]; rfl⟩
  | succ k ih =>
    intro i Ks h1 h2 h3
    have h := ih (i + 1) (svF sl C i Ks) (by omega) (by unfold svF; rw [List.length_set]; exact h2) h3
    refine ⟨h.1, fun q => ?_⟩
    have e : zk_it (svF sl C) (k + 1) i Ks = zk_it (svF sl C) k (i + 1) (svF sl C i Ks) := rfl
    rw [e, h.2 q]
    by_cases hq : q = 4 * sl + i
    · rw [if_neg (by omega), if_pos (by omega), hq]
      unfold svF
      rw [List.getD_eq_getElem?_getD, List.getElem?_set_self (by omega)]
      show C.getD i 0 = _
      congr 1; omega
    · by_cases hr : 4 * sl + (i + 1) ≤ q ∧ q < 4 * sl + (i + 1) + k
      · rw [if_pos hr, if_pos (by omega)]
      · rw [if_neg hr, if_neg (by omega)]
        unfold svF
        rw [List.getD_eq_getElem?_getD, List.getElem?_set_ne (by omega), ← List.getD_eq_getElem?_getD]
theorem mg_ks (s : Nat) (s3 : s < 4) (C : List Nat) (K : List (List Nat)) (i j : Nat) (i4 : i < 4) : mg (zk_ks s C K) i j = if i = s then C.getD j 0 else mg K i j := by
  unfold mg zk_ks
  rcases (show s = 0 ∨ s = 1 ∨ s = 2 ∨ s = 3 by omega) with rfl | rfl | rfl | rfl <;> rcases (show i = 0 ∨ i = 1 ∨ i = 2 ∨ i = 3 by omega) with rfl | rfl | rfl | rfl <;> rfl
theorem zk_kk_sv {K : List (List Nat)} {Ks C : List Nat} (hK : zk_kk K Ks) {s dep : Nat} (s3 : s < 4) (d4 : dep ≤ 4) (hC : ∀ j, dep ≤ j → C.getD j 0 = 0) (hz : ∀ i j, dep ≤ j → mg K i j = 0) : zk_kk (zk_ks s C K) (zk_it (svF s C) dep 0 Ks) := by
  have h := zk_it_sv C s dep 0 Ks (by omega) hK.1 s3
  refine ⟨h.1, fun i j i4 j4 => ?_⟩
  rw [h.2, mg_ks s s3 C K i j i4]
  by_cases e : i = s
  · subst e
    rw [if_pos rfl]
    by_cases hj : j < dep
    · rw [if_pos (by omega)]; congr 1; omega
    · rw [if_neg (by omega), hK.2 i j i4 j4, hz i j (by omega), hC j (by omega)]
  · rw [if_neg (by omega), if_neg e]; exact hK.2 i j i4 j4
theorem fm_023 {l : Launch} {y : MethodName} {ws : List Cond} {rm : Room} {D : va_G} {g : G4} {As : List Value} {x0 x1 x2 x3 x4 x5 x6 : Nat × va_E} {Qx Qx' : Option Value → va_W → Prop} (hM : zk_M l y ws rm D g As [x0, x2, x3] Qx) (hq : ∀ v w1, Qx v w1 → ∃ y0 y2 y3, w1 = [y0, y2, y3] ∧ Qx' v [y0, x1, y2, y3, x4, x5, x6]) : zk_M l y ws rm D g As [x0, x1, x2, x3, x4, x5, x6] Qx' :=
  zk_M.frame (wr := [x1, x4, x5, x6]) hM [0, 2, 3] [1, 4, 5, 6] rfl rfl (by decide +kernel) (by decide +kernel) (by decide +kernel) (fun v w1 h => by obtain ⟨y0, y2, y3, rfl, h2⟩ := hq v w1 h; exact ⟨_, h2, [4, 0, 5, 6, 1, 2, 3], by decide +kernel, rfl⟩)
set_option maxHeartbeats 4000000 in
theorem mn_save (l : Launch) (D : va_G) (g : G4) (hm km : Nat) (st : zk_P) (w : va_W) (hB : zk_wMB g hm st km w) (hok : zk_okP st) (s : Nat) (s3 : s < 4) : zk_M l yX8_save (ws_ yX8_save cX8_save 3 none) (zk_R 1 0 0) D g [.ref hm, .int (nI s)] w (fun r_ w2 => r_ = none ∧ zk_wMB g hm ((st.1, st.2.1, st.2.2.1, st.2.2.2.1, st.2.2.2.2.1, zk_ks s st.2.2.2.2.1 st.2.2.2.2.2)) 0 w2) := by
  obtain ⟨A, Ks, Ds, Rs, Pp, hK, hD, hRl, hPl, hR, rfl⟩ := hB
  have hok0 := hok
  obtain ⟨o1, ⟨o2, o3⟩, ⟨o4, o5⟩, o6, o7, o8, o9, o10, o11, o12, o13⟩ := hok0
  have hn9 := zk_okn hok
  exact fm_023 (m8_save l D g hm (A 0) (A 1) (A 2) (A 3) (A 4) (A 5) km st.1 (mdg st.1) (zk_nn st.1) st.2.1 st.2.2.1 (gnr st.1 (zk_nn st.1) st.2.1) (lgn st.1 (zk_nn st.1) st.2.1) st.2.2.2.2.1 o7 o5 s (by omega) Ks hK.1) (fun v w1 hQ => by
    obtain ⟨rfl, rfl⟩ := hQ
    exact ⟨_, _, _, rfl, rfl, A, _, Ds, Rs, Pp, zk_kk_sv hK s3 o5 o12 o13, hD, hRl, hPl, hR, rfl⟩)
set_option maxHeartbeats 4000000 in
theorem mw_power (l : Launch) (D : va_G) (g : G4) (hm km : Nat) (st : zk_P) (w : va_W) (hB : zk_wMB g hm st km w) (hok : zk_okP st) (x : Int32) (hx0 : x < 0) : zk_M l yX8_power (ws_ yX8_power cX8_power 2 (some .int)) (zk_R 0 0 0) D g [.ref hm, .int x] w (fun r_ w2 => r_ = some (.int (nI 0)) ∧ zk_wMB g hm (st) 2 w2) := by
  obtain ⟨A, Ks, Ds, Rs, Pp, hK, hD, hRl, hPl, hR, rfl⟩ := hB
  have hok0 := hok
  obtain ⟨o1, ⟨o2, o3⟩, ⟨o4, o5⟩, o6, o7, o8, o9, o10, o11, o12, o13⟩ := hok0
  have hn9 := zk_okn hok
  exact fm_0 (w8_power l D g hm (A 0) (A 1) (A 2) (A 3) (A 4) (A 5) km st.1 (mdg st.1) (zk_nn st.1) st.2.1 st.2.2.1 (gnr st.1 (zk_nn st.1) st.2.1) (lgn st.1 (zk_nn st.1) st.2.1) x hx0) (fun v w1 hQ => by
    obtain ⟨rfl, rfl⟩ := hQ
    exact ⟨_, rfl, rfl, A, Ks, Ds, Rs, Pp, hK, hD, hRl, hPl, hR, rfl⟩)
set_option maxHeartbeats 4000000 in
theorem mw_log (l : Launch) (D : va_G) (g : G4) (hm km : Nat) (st : zk_P) (w : va_W) (hB : zk_wMB g hm st km w) (hok : zk_okP st) (x : Int32) (h0_ : ¬ (nI 1 ≤ x ∧ x ≤ nI (zk_nn st.1))) : zk_M l yX8_log (ws_ yX8_log cX8_log 3 (some .int)) (zk_R 1 0 0) D g [.ref hm, .int x] w (fun r_ w2 => r_ = some (.int (nI 0)) ∧ zk_wMB g hm (st) 2 w2) := by
  obtain ⟨A, Ks, Ds, Rs, Pp, hK, hD, hRl, hPl, hR, rfl⟩ := hB
  have hok0 := hok
  obtain ⟨o1, ⟨o2, o3⟩, ⟨o4, o5⟩, o6, o7, o8, o9, o10, o11, o12, o13⟩ := hok0
  have hn9 := zk_okn hok
  exact fm_0 (w8_log l D g hm (A 0) (A 1) (A 2) (A 3) (A 4) (A 5) km st.1 (mdg st.1) (zk_nn st.1) st.2.1 st.2.2.1 (gnr st.1 (zk_nn st.1) st.2.1) (lgn st.1 (zk_nn st.1) st.2.1) x h0_) (fun v w1 hQ => by
    obtain ⟨rfl, rfl⟩ := hQ
    exact ⟨_, rfl, rfl, A, Ks, Ds, Rs, Pp, hK, hD, hRl, hPl, hR, rfl⟩)
set_option maxHeartbeats 4000000 in
theorem mw_times_a (l : Launch) (D : va_G) (g : G4) (hm km : Nat) (st : zk_P) (w : va_W) (hB : zk_wMB g hm st km w) (hok : zk_okP st) (a b : Int32) (h0_ : ¬ (nI 0 ≤ a ∧ a ≤ nI (zk_nn st.1))) : zk_M l yX8_times (ws_ yX8_times cX8_times 3 (some .int)) (zk_R 1 0 0) D g [.ref hm, .int a, .int b] w (fun r_ w2 => r_ = some (.int (nI 0)) ∧ zk_wMB g hm (st) 2 w2) := by
  obtain ⟨A, Ks, Ds, Rs, Pp, hK, hD, hRl, hPl, hR, rfl⟩ := hB
  have hok0 := hok
  obtain ⟨o1, ⟨o2, o3⟩, ⟨o4, o5⟩, o6, o7, o8, o9, o10, o11, o12, o13⟩ := hok0
  have hn9 := zk_okn hok
  exact fm_0 (w8_times_a l D g hm (A 0) (A 1) (A 2) (A 3) (A 4) (A 5) km st.1 (mdg st.1) (zk_nn st.1) st.2.1 st.2.2.1 (gnr st.1 (zk_nn st.1) st.2.1) (lgn st.1 (zk_nn st.1) st.2.1) a b h0_) (fun v w1 hQ => by
    obtain ⟨rfl, rfl⟩ := hQ
    exact ⟨_, rfl, rfl, A, Ks, Ds, Rs, Pp, hK, hD, hRl, hPl, hR, rfl⟩)
set_option maxHeartbeats 4000000 in
theorem mw_times_b (l : Launch) (D : va_G) (g : G4) (hm km : Nat) (st : zk_P) (w : va_W) (hB : zk_wMB g hm st km w) (hok : zk_okP st) (a b : Int32) (ha_ : nI 0 ≤ a ∧ a ≤ nI (zk_nn st.1)) (h0_ : ¬ (nI 0 ≤ b ∧ b ≤ nI (zk_nn st.1))) : zk_M l yX8_times (ws_ yX8_times cX8_times 3 (some .int)) (zk_R 1 0 0) D g [.ref hm, .int a, .int b] w (fun r_ w2 => r_ = some (.int (nI 0)) ∧ zk_wMB g hm (st) 2 w2) := by
  obtain ⟨A, Ks, Ds, Rs, Pp, hK, hD, hRl, hPl, hR, rfl⟩ := hB
  have hok0 := hok
  obtain ⟨o1, ⟨o2, o3⟩, ⟨o4, o5⟩, o6, o7, o8, o9, o10, o11, o12, o13⟩ := hok0
  have hn9 := zk_okn hok
  exact fm_0 (w8_times_b l D g hm (A 0) (A 1) (A 2) (A 3) (A 4) (A 5) km st.1 (mdg st.1) (zk_nn st.1) st.2.1 st.2.2.1 (gnr st.1 (zk_nn st.1) st.2.1) (lgn st.1 (zk_nn st.1) st.2.1) a b ha_ h0_) (fun v w1 hQ => by
    obtain ⟨rfl, rfl⟩ := hQ
    exact ⟨_, rfl, rfl, A, Ks, Ds, Rs, Pp, hK, hD, hRl, hPl, hR, rfl⟩)
set_option maxHeartbeats 4000000 in
theorem mw_put_i (l : Launch) (D : va_G) (g : G4) (hm km : Nat) (st : zk_P) (w : va_W) (hB : zk_wMB g hm st km w) (hok : zk_okP st) (i b : Int32) (h0_ : ¬ (nI 0 ≤ i ∧ i ≤ nI (st.2.2.1 * kdn st.1 st.2.1 - 1))) : zk_M l yX8_put (ws_ yX8_put cX8_put 5 none) (zk_R 1 0 0) D g [.ref hm, .int i, .int b] w (fun r_ w2 => r_ = none ∧ zk_wMB g hm (st) 2 w2) := by
  obtain ⟨A, Ks, Ds, Rs, Pp, hK, hD, hRl, hPl, hR, rfl⟩ := hB
  have hok0 := hok
  obtain ⟨o1, ⟨o2, o3⟩, ⟨o4, o5⟩, o6, o7, o8, o9, o10, o11, o12, o13⟩ := hok0
  have hn9 := zk_okn hok
  exact fm_0 (w8_put_i l D g hm (A 0) (A 1) (A 2) (A 3) (A 4) (A 5) km st.1 (mdg st.1) (zk_nn st.1) st.2.1 st.2.2.1 (gnr st.1 (zk_nn st.1) st.2.1) (lgn st.1 (zk_nn st.1) st.2.1) i b (by omega) (by have h8 := Nat.mul_le_mul o4 (show 1 ≤ kdn st.1 st.2.1 by omega); exact h8) h0_) (fun v w1 hQ => by
    obtain ⟨rfl, rfl⟩ := hQ
    exact ⟨_, rfl, rfl, A, Ks, Ds, Rs, Pp, hK, hD, hRl, hPl, hR, rfl⟩)
set_option maxHeartbeats 4000000 in
theorem mw_put_b (l : Launch) (D : va_G) (g : G4) (hm km : Nat) (st : zk_P) (w : va_W) (hB : zk_wMB g hm st km w) (hok : zk_okP st) (i b : Int32) (hi_ : nI 0 ≤ i ∧ i ≤ nI (st.2.2.1 * kdn st.1 st.2.1 - 1)) (h0_ : ¬ (nI 0 ≤ b ∧ b ≤ nI 1)) : zk_M l yX8_put (ws_ yX8_put cX8_put 5 none) (zk_R 1 0 0) D g [.ref hm, .int i, .int b] w (fun r_ w2 => r_ = none ∧ zk_wMB g hm (st) 3 w2) := by
  obtain ⟨A, Ks, Ds, Rs, Pp, hK, hD, hRl, hPl, hR, rfl⟩ := hB
  have hok0 := hok
  obtain ⟨o1, ⟨o2, o3⟩, ⟨o4, o5⟩, o6, o7, o8, o9, o10, o11, o12, o13⟩ := hok0
  have hn9 := zk_okn hok
  exact fm_0 (w8_put_b l D g hm (A 0) (A 1) (A 2) (A 3) (A 4) (A 5) km st.1 (mdg st.1) (zk_nn st.1) st.2.1 st.2.2.1 (gnr st.1 (zk_nn st.1) st.2.1) (lgn st.1 (zk_nn st.1) st.2.1) i b (by omega) (by have h8 := Nat.mul_le_mul o4 (show 1 ≤ kdn st.1 st.2.1 by omega); exact h8) hi_ h0_) (fun v w1 hQ => by
    obtain ⟨rfl, rfl⟩ := hQ
    exact ⟨_, rfl, rfl, A, Ks, Ds, Rs, Pp, hK, hD, hRl, hPl, hR, rfl⟩)
set_option maxHeartbeats 4000000 in
theorem mw_get (l : Launch) (D : va_G) (g : G4) (hm km : Nat) (st : zk_P) (w : va_W) (hB : zk_wMB g hm st km w) (hok : zk_okP st) (i : Int32) (h0_ : ¬ (nI 0 ≤ i ∧ i ≤ nI (st.2.2.1 * kdn st.1 st.2.1 - 1))) : zk_M l yX8_get (ws_ yX8_get cX8_get 2 (some .int)) (zk_R 1 0 0) D g [.ref hm, .int i] w (fun r_ w2 => r_ = some (.int (nI 0)) ∧ zk_wMB g hm (st) 2 w2) := by
  obtain ⟨A, Ks, Ds, Rs, Pp, hK, hD, hRl, hPl, hR, rfl⟩ := hB
  have hok0 := hok
  obtain ⟨o1, ⟨o2, o3⟩, ⟨o4, o5⟩, o6, o7, o8, o9, o10, o11, o12, o13⟩ := hok0
  have hn9 := zk_okn hok
  exact fm_0 (w8_get l D g hm (A 0) (A 1) (A 2) (A 3) (A 4) (A 5) km st.1 (mdg st.1) (zk_nn st.1) st.2.1 st.2.2.1 (gnr st.1 (zk_nn st.1) st.2.1) (lgn st.1 (zk_nn st.1) st.2.1) i (by omega) (by have h8 := Nat.mul_le_mul o4 (show 1 ≤ kdn st.1 st.2.1 by omega); exact h8) h0_) (fun v w1 hQ => by
    obtain ⟨rfl, rfl⟩ := hQ
    exact ⟨_, rfl, rfl, A, Ks, Ds, Rs, Pp, hK, hD, hRl, hPl, hR, rfl⟩)
set_option maxHeartbeats 4000000 in
theorem mw_bit (l : Launch) (D : va_G) (g : G4) (hm km : Nat) (st : zk_P) (w : va_W) (hB : zk_wMB g hm st km w) (hok : zk_okP st) (i : Int32) (h0_ : ¬ (nI 0 ≤ i ∧ i ≤ nI (st.2.2.1 * zk_nn st.1 - 1))) : zk_M l yX8_bit (ws_ yX8_bit cX8_bit 2 (some .int)) (zk_R 1 0 0) D g [.ref hm, .int i] w (fun r_ w2 => r_ = some (.int (nI 0)) ∧ zk_wMB g hm (st) 2 w2) := by
  obtain ⟨A, Ks, Ds, Rs, Pp, hK, hD, hRl, hPl, hR, rfl⟩ := hB
  have hok0 := hok
  obtain ⟨o1, ⟨o2, o3⟩, ⟨o4, o5⟩, o6, o7, o8, o9, o10, o11, o12, o13⟩ := hok0
  have hn9 := zk_okn hok
  exact fm_0 (w8_bit l D g hm (A 0) (A 1) (A 2) (A 3) (A 4) (A 5) km st.1 (mdg st.1) (zk_nn st.1) st.2.1 st.2.2.1 (gnr st.1 (zk_nn st.1) st.2.1) (lgn st.1 (zk_nn st.1) st.2.1) i (by have := Nat.mul_le_mul o4 (show 1 ≤ zk_nn st.1 by omega); omega) h0_) (fun v w1 hQ => by
    obtain ⟨rfl, rfl⟩ := hQ
    exact ⟨_, rfl, rfl, A, Ks, Ds, Rs, Pp, hK, hD, hRl, hPl, hR, rfl⟩)
set_option maxHeartbeats 4000000 in
theorem mw_burst_i (l : Launch) (D : va_G) (g : G4) (hm km : Nat) (st : zk_P) (w : va_W) (hB : zk_wMB g hm st km w) (hok : zk_okP st) (i m : Int32) (h0_ : ¬ (nI 0 ≤ i ∧ i ≤ nI (st.2.2.1 * zk_nn st.1 - 1))) : zk_M l yX8_burst (ws_ yX8_burst cX8_burst 5 none) (zk_R 1 0 0) D g [.ref hm, .int i, .int m] w (fun r_ w2 => r_ = none ∧ zk_wMB g hm (st) 2 w2) := by
  obtain ⟨A, Ks, Ds, Rs, Pp, hK, hD, hRl, hPl, hR, rfl⟩ := hB
  have hok0 := hok
  obtain ⟨o1, ⟨o2, o3⟩, ⟨o4, o5⟩, o6, o7, o8, o9, o10, o11, o12, o13⟩ := hok0
  have hn9 := zk_okn hok
  exact fm_0 (w8_burst_i l D g hm (A 0) (A 1) (A 2) (A 3) (A 4) (A 5) km st.1 (mdg st.1) (zk_nn st.1) st.2.1 st.2.2.1 (gnr st.1 (zk_nn st.1) st.2.1) (lgn st.1 (zk_nn st.1) st.2.1) i m (by have := Nat.mul_le_mul o4 (show 1 ≤ zk_nn st.1 by omega); omega) h0_) (fun v w1 hQ => by
    obtain ⟨rfl, rfl⟩ := hQ
    exact ⟨_, rfl, rfl, A, Ks, Ds, Rs, Pp, hK, hD, hRl, hPl, hR, rfl⟩)
set_option maxHeartbeats 4000000 in
theorem mw_burst_m (l : Launch) (D : va_G) (g : G4) (hm km : Nat) (st : zk_P) (w : va_W) (hB : zk_wMB g hm st km w) (hok : zk_okP st) (i m : Int32) (hi_ : nI 0 ≤ i ∧ i ≤ nI (st.2.2.1 * zk_nn st.1 - 1)) (hm_ : nI (st.2.2.1 * zk_nn st.1) - i < m) : zk_M l yX8_burst (ws_ yX8_burst cX8_burst 5 none) (zk_R 1 0 0) D g [.ref hm, .int i, .int m] w (fun r_ w2 => r_ = none ∧ zk_wMB g hm (st) 2 w2) := by
  obtain ⟨A, Ks, Ds, Rs, Pp, hK, hD, hRl, hPl, hR, rfl⟩ := hB
  have hok0 := hok
  obtain ⟨o1, ⟨o2, o3⟩, ⟨o4, o5⟩, o6, o7, o8, o9, o10, o11, o12, o13⟩ := hok0
  have hn9 := zk_okn hok
  exact fm_0 (w8_burst_m l D g hm (A 0) (A 1) (A 2) (A 3) (A 4) (A 5) km st.1 (mdg st.1) (zk_nn st.1) st.2.1 st.2.2.1 (gnr st.1 (zk_nn st.1) st.2.1) (lgn st.1 (zk_nn st.1) st.2.1) i m (by have := Nat.mul_le_mul o4 (show 1 ≤ zk_nn st.1 by omega); omega) hi_ hm_) (fun v w1 hQ => by
    obtain ⟨rfl, rfl⟩ := hQ
    exact ⟨_, rfl, rfl, A, Ks, Ds, Rs, Pp, hK, hD, hRl, hPl, hR, rfl⟩)
set_option maxHeartbeats 4000000 in
theorem mw_burst_n (l : Launch) (D : va_G) (g : G4) (hm km : Nat) (st : zk_P) (w : va_W) (hB : zk_wMB g hm st km w) (hok : zk_okP st) (i m : Int32) (hi_ : nI 0 ≤ i ∧ i ≤ nI (st.2.2.1 * zk_nn st.1 - 1)) (hm_ : ¬ nI (st.2.2.1 * zk_nn st.1) - i < m) (h0_ : ¬ (nI 1 ≤ m ∧ m ≤ nI 124)) : zk_M l yX8_burst (ws_ yX8_burst cX8_burst 5 none) (zk_R 1 0 0) D g [.ref hm, .int i, .int m] w (fun r_ w2 => r_ = none ∧ zk_wMB g hm (st) 3 w2) := by
  obtain ⟨A, Ks, Ds, Rs, Pp, hK, hD, hRl, hPl, hR, rfl⟩ := hB
  have hok0 := hok
  obtain ⟨o1, ⟨o2, o3⟩, ⟨o4, o5⟩, o6, o7, o8, o9, o10, o11, o12, o13⟩ := hok0
  have hn9 := zk_okn hok
  exact fm_0 (w8_burst_n l D g hm (A 0) (A 1) (A 2) (A 3) (A 4) (A 5) km st.1 (mdg st.1) (zk_nn st.1) st.2.1 st.2.2.1 (gnr st.1 (zk_nn st.1) st.2.1) (lgn st.1 (zk_nn st.1) st.2.1) i m (by have := Nat.mul_le_mul o4 (show 1 ≤ zk_nn st.1 by omega); omega) hi_ hm_ h0_) (fun v w1 hQ => by
    obtain ⟨rfl, rfl⟩ := hQ
    exact ⟨_, rfl, rfl, A, Ks, Ds, Rs, Pp, hK, hD, hRl, hPl, hR, rfl⟩)
set_option maxHeartbeats 4000000 in
theorem mw_noise (l : Launch) (D : va_G) (g : G4) (hm km : Nat) (st : zk_P) (w : va_W) (hB : zk_wMB g hm st km w) (hok : zk_okP st) (seed rate : Int32) (h0_ : ¬ (nI 0 ≤ rate ∧ rate ≤ nI 1000)) : zk_M l yX8_noise (ws_ yX8_noise cX8_noise 6 (some .int)) (zk_R 1 0 0) D g [.ref hm, .int seed, .int rate] w (fun r_ w2 => r_ = some (.int (nI 0)) ∧ zk_wMB g hm (st) 2 w2) := by
  obtain ⟨A, Ks, Ds, Rs, Pp, hK, hD, hRl, hPl, hR, rfl⟩ := hB
  have hok0 := hok
  obtain ⟨o1, ⟨o2, o3⟩, ⟨o4, o5⟩, o6, o7, o8, o9, o10, o11, o12, o13⟩ := hok0
  have hn9 := zk_okn hok
  exact fm_0 (w8_noise l D g hm (A 0) (A 1) (A 2) (A 3) (A 4) (A 5) km st.1 (mdg st.1) (zk_nn st.1) st.2.1 st.2.2.1 (gnr st.1 (zk_nn st.1) st.2.1) (lgn st.1 (zk_nn st.1) st.2.1) o5 (by omega) seed rate h0_) (fun v w1 hQ => by
    obtain ⟨rfl, rfl⟩ := hQ
    exact ⟨_, rfl, rfl, A, Ks, Ds, Rs, Pp, hK, hD, hRl, hPl, hR, rfl⟩)
set_option maxHeartbeats 4000000 in
theorem mw_synd_w (l : Launch) (D : va_G) (g : G4) (hm km : Nat) (st : zk_P) (w : va_W) (hB : zk_wMB g hm st km w) (hok : zk_okP st) (v j : Int32) (h0_ : ¬ (nI 0 ≤ v ∧ v ≤ nI (st.2.2.1 - 1))) : zk_M l yX8_syndrome (ws_ yX8_syndrome cX8_syndrome 5 (some .int)) (zk_R 1 0 0) D g [.ref hm, .int v, .int j] w (fun r_ w2 => r_ = some (.int (nI 0)) ∧ zk_wMB g hm (st) 2 w2) := by
  obtain ⟨A, Ks, Ds, Rs, Pp, hK, hD, hRl, hPl, hR, rfl⟩ := hB
  have hok0 := hok
  obtain ⟨o1, ⟨o2, o3⟩, ⟨o4, o5⟩, o6, o7, o8, o9, o10, o11, o12, o13⟩ := hok0
  have hn9 := zk_okn hok
  exact fm_0 (w8_synd_w l D g hm (A 0) (A 1) (A 2) (A 3) (A 4) (A 5) km st.1 (mdg st.1) (zk_nn st.1) st.2.1 st.2.2.1 (gnr st.1 (zk_nn st.1) st.2.1) (lgn st.1 (zk_nn st.1) st.2.1) (by omega) v j o4 h0_) (fun v w1 hQ => by
    obtain ⟨rfl, rfl⟩ := hQ
    exact ⟨_, rfl, rfl, A, Ks, Ds, Rs, Pp, hK, hD, hRl, hPl, hR, rfl⟩)
set_option maxHeartbeats 4000000 in
theorem mw_synd_j (l : Launch) (D : va_G) (g : G4) (hm km : Nat) (st : zk_P) (w : va_W) (hB : zk_wMB g hm st km w) (hok : zk_okP st) (v j : Int32) (hw_ : nI 0 ≤ v ∧ v ≤ nI (st.2.2.1 - 1)) (h0_ : ¬ (nI 1 ≤ j ∧ j ≤ nI (2 * st.2.1))) : zk_M l yX8_syndrome (ws_ yX8_syndrome cX8_syndrome 5 (some .int)) (zk_R 1 0 0) D g [.ref hm, .int v, .int j] w (fun r_ w2 => r_ = some (.int (nI 0)) ∧ zk_wMB g hm (st) 2 w2) := by
  obtain ⟨A, Ks, Ds, Rs, Pp, hK, hD, hRl, hPl, hR, rfl⟩ := hB
  have hok0 := hok
  obtain ⟨o1, ⟨o2, o3⟩, ⟨o4, o5⟩, o6, o7, o8, o9, o10, o11, o12, o13⟩ := hok0
  have hn9 := zk_okn hok
  exact fm_0 (w8_synd_j l D g hm (A 0) (A 1) (A 2) (A 3) (A 4) (A 5) km st.1 (mdg st.1) (zk_nn st.1) st.2.1 st.2.2.1 (gnr st.1 (zk_nn st.1) st.2.1) (lgn st.1 (zk_nn st.1) st.2.1) (by omega) v j o4 hw_ h0_) (fun v w1 hQ => by
    obtain ⟨rfl, rfl⟩ := hQ
    exact ⟨_, rfl, rfl, A, Ks, Ds, Rs, Pp, hK, hD, hRl, hPl, hR, rfl⟩)
set_option maxHeartbeats 4000000 in
theorem mw_save (l : Launch) (D : va_G) (g : G4) (hm km : Nat) (st : zk_P) (w : va_W) (hB : zk_wMB g hm st km w) (hok : zk_okP st) (x : Int32) (h0_ : ¬ (nI 0 ≤ x ∧ x ≤ nI 3)) : zk_M l yX8_save (ws_ yX8_save cX8_save 3 none) (zk_R 1 0 0) D g [.ref hm, .int x] w (fun r_ w2 => r_ = none ∧ zk_wMB g hm (st) 2 w2) := by
  obtain ⟨A, Ks, Ds, Rs, Pp, hK, hD, hRl, hPl, hR, rfl⟩ := hB
  have hok0 := hok
  obtain ⟨o1, ⟨o2, o3⟩, ⟨o4, o5⟩, o6, o7, o8, o9, o10, o11, o12, o13⟩ := hok0
  have hn9 := zk_okn hok
  exact fm_0 (w8_save l D g hm (A 0) (A 1) (A 2) (A 3) (A 4) (A 5) km st.1 (mdg st.1) (zk_nn st.1) st.2.1 st.2.2.1 (gnr st.1 (zk_nn st.1) st.2.1) (lgn st.1 (zk_nn st.1) st.2.1) o5 x h0_) (fun v w1 hQ => by
    obtain ⟨rfl, rfl⟩ := hQ
    exact ⟨_, rfl, rfl, A, Ks, Ds, Rs, Pp, hK, hD, hRl, hPl, hR, rfl⟩)
set_option maxHeartbeats 4000000 in
theorem mw_dec (l : Launch) (D : va_G) (g : G4) (hm km : Nat) (st : zk_P) (w : va_W) (hB : zk_wMB g hm st km w) (hok : zk_okP st) (x : Int32) (h0_ : ¬ (nI 0 ≤ x ∧ x ≤ nI 2)) : zk_M l yX8_decode (ws_ yX8_decode cX8_decode 3 (some .int)) (zk_R 3 0 0) D g [.ref hm, .int x] w (fun r_ w2 => r_ = some (.int (nI 0)) ∧ zk_wMB g hm (st) 2 w2) := by
  obtain ⟨A, Ks, Ds, Rs, Pp, hK, hD, hRl, hPl, hR, rfl⟩ := hB
  have hok0 := hok
  obtain ⟨o1, ⟨o2, o3⟩, ⟨o4, o5⟩, o6, o7, o8, o9, o10, o11, o12, o13⟩ := hok0
  have hn9 := zk_okn hok
  exact fm_0 (w8_dec l D g hm (A 0) (A 1) (A 2) (A 3) (A 4) (A 5) km st.1 (mdg st.1) (zk_nn st.1) st.2.1 st.2.2.1 (gnr st.1 (zk_nn st.1) st.2.1) (lgn st.1 (zk_nn st.1) st.2.1) x h0_) (fun v w1 hQ => by
    obtain ⟨rfl, rfl⟩ := hQ
    exact ⟨_, rfl, rfl, A, Ks, Ds, Rs, Pp, hK, hD, hRl, hPl, hR, rfl⟩)
set_option maxHeartbeats 4000000 in
theorem mw_load (l : Launch) (D : va_G) (g : G4) (hm km : Nat) (st : zk_P) (w : va_W) (hB : zk_wMB g hm st km w) (hok : zk_okP st) (x : Int32) (h0_ : ¬ (nI 0 ≤ x ∧ x ≤ nI 3)) : zk_M l yX8_load (ws_ yX8_load cX8_load 4 (some .int)) (zk_R 3 0 0) D g [.ref hm, .int x] w (fun r_ w2 => r_ = some (.int (nI 0)) ∧ zk_wMB g hm (st) 2 w2) := by
  obtain ⟨A, Ks, Ds, Rs, Pp, hK, hD, hRl, hPl, hR, rfl⟩ := hB
  have hok0 := hok
  obtain ⟨o1, ⟨o2, o3⟩, ⟨o4, o5⟩, o6, o7, o8, o9, o10, o11, o12, o13⟩ := hok0
  have hn9 := zk_okn hok
  exact fm_0 (w8_load l D g hm (A 0) (A 1) (A 2) (A 3) (A 4) (A 5) km st.1 (mdg st.1) (zk_nn st.1) st.2.1 st.2.2.1 (gnr st.1 (zk_nn st.1) st.2.1) (lgn st.1 (zk_nn st.1) st.2.1) x h0_) (fun v w1 hQ => by
    obtain ⟨rfl, rfl⟩ := hQ
    exact ⟨_, rfl, rfl, A, Ks, Ds, Rs, Pp, hK, hD, hRl, hPl, hR, rfl⟩)
theorem mu_length (l : Launch) (D : va_G) (g : G4) (hm km : Nat) (w : va_W) (hU : zk_wMU g hm km w)  : zk_M l yX8_length (ws_ yX8_length cX8_length 1 (some .int)) (zk_R 0 0 0) D g [.ref hm] w (fun r_ w2 => r_ = some (.int (nI 0)) ∧ zk_wMU g hm 1 w2) := by
  obtain ⟨A, Ms, Cs, Ks, Ds, Rs, Pp, h1, rfl⟩ := hU
  exact fm_0 (v8_length l D g hm (A 0) (A 1) (A 2) (A 3) (A 4) (A 5) km ) (fun v w1 hQ => by
    obtain ⟨rfl, rfl⟩ := hQ
    exact ⟨_, rfl, rfl, A, Ms, Cs, Ks, Ds, Rs, Pp, h1, rfl⟩)
theorem mu_gen (l : Launch) (D : va_G) (g : G4) (hm km : Nat) (w : va_W) (hU : zk_wMU g hm km w)  : zk_M l yX8_generator (ws_ yX8_generator cX8_generator 1 (some .int)) (zk_R 0 0 0) D g [.ref hm] w (fun r_ w2 => r_ = some (.int (nI 0)) ∧ zk_wMU g hm 1 w2) := by
  obtain ⟨A, Ms, Cs, Ks, Ds, Rs, Pp, h1, rfl⟩ := hU
  exact fm_0 (v8_gen l D g hm (A 0) (A 1) (A 2) (A 3) (A 4) (A 5) km ) (fun v w1 hQ => by
    obtain ⟨rfl, rfl⟩ := hQ
    exact ⟨_, rfl, rfl, A, Ms, Cs, Ks, Ds, Rs, Pp, h1, rfl⟩)
theorem mu_power (l : Launch) (D : va_G) (g : G4) (hm km : Nat) (w : va_W) (hU : zk_wMU g hm km w) (x : Int32) : zk_M l yX8_power (ws_ yX8_power cX8_power 2 (some .int)) (zk_R 0 0 0) D g [.ref hm, .int x] w (fun r_ w2 => r_ = some (.int (nI 0)) ∧ zk_wMU g hm 1 w2) := by
  obtain ⟨A, Ms, Cs, Ks, Ds, Rs, Pp, h1, rfl⟩ := hU
  exact fm_0 (v8_power l D g hm (A 0) (A 1) (A 2) (A 3) (A 4) (A 5) km x) (fun v w1 hQ => by
    obtain ⟨rfl, rfl⟩ := hQ
    exact ⟨_, rfl, rfl, A, Ms, Cs, Ks, Ds, Rs, Pp, h1, rfl⟩)
theorem mu_log (l : Launch) (D : va_G) (g : G4) (hm km : Nat) (w : va_W) (hU : zk_wMU g hm km w) (x : Int32) : zk_M l yX8_log (ws_ yX8_log cX8_log 3 (some .int)) (zk_R 0 0 0) D g [.ref hm, .int x] w (fun r_ w2 => r_ = some (.int (nI 0)) ∧ zk_wMU g hm 1 w2) := by
  obtain ⟨A, Ms, Cs, Ks, Ds, Rs, Pp, h1, rfl⟩ := hU
  exact fm_0 (v8_log l D g hm (A 0) (A 1) (A 2) (A 3) (A 4) (A 5) km x) (fun v w1 hQ => by
    obtain ⟨rfl, rfl⟩ := hQ
    exact ⟨_, rfl, rfl, A, Ms, Cs, Ks, Ds, Rs, Pp, h1, rfl⟩)
theorem mu_times (l : Launch) (D : va_G) (g : G4) (hm km : Nat) (w : va_W) (hU : zk_wMU g hm km w) (a b : Int32) : zk_M l yX8_times (ws_ yX8_times cX8_times 3 (some .int)) (zk_R 0 0 0) D g [.ref hm, .int a, .int b] w (fun r_ w2 => r_ = some (.int (nI 0)) ∧ zk_wMU g hm 1 w2) := by
  obtain ⟨A, Ms, Cs, Ks, Ds, Rs, Pp, h1, rfl⟩ := hU
  exact fm_0 (v8_times l D g hm (A 0) (A 1) (A 2) (A 3) (A 4) (A 5) km a b) (fun v w1 hQ => by
    obtain ⟨rfl, rfl⟩ := hQ
    exact ⟨_, rfl, rfl, A, Ms, Cs, Ks, Ds, Rs, Pp, h1, rfl⟩)
theorem mu_put (l : Launch) (D : va_G) (g : G4) (hm km : Nat) (w : va_W) (hU : zk_wMU g hm km w) (i b : Int32) : zk_M l yX8_put (ws_ yX8_put cX8_put 5 none) (zk_R 0 0 0) D g [.ref hm, .int i, .int b] w (fun r_ w2 => r_ = none ∧ zk_wMU g hm 1 w2) := by
  obtain ⟨A, Ms, Cs, Ks, Ds, Rs, Pp, h1, rfl⟩ := hU
  exact fm_0 (v8_put l D g hm (A 0) (A 1) (A 2) (A 3) (A 4) (A 5) km i b) (fun v w1 hQ => by
    obtain ⟨rfl, rfl⟩ := hQ
    exact ⟨_, rfl, rfl, A, Ms, Cs, Ks, Ds, Rs, Pp, h1, rfl⟩)
theorem mu_get (l : Launch) (D : va_G) (g : G4) (hm km : Nat) (w : va_W) (hU : zk_wMU g hm km w) (i : Int32) : zk_M l yX8_get (ws_ yX8_get cX8_get 2 (some .int)) (zk_R 0 0 0) D g [.ref hm, .int i] w (fun r_ w2 => r_ = some (.int (nI 0)) ∧ zk_wMU g hm 1 w2) := by
  obtain ⟨A, Ms, Cs, Ks, Ds, Rs, Pp, h1, rfl⟩ := hU
  exact fm_0 (v8_get l D g hm (A 0) (A 1) (A 2) (A 3) (A 4) (A 5) km i) (fun v w1 hQ => by
    obtain ⟨rfl, rfl⟩ := hQ
    exact ⟨_, rfl, rfl, A, Ms, Cs, Ks, Ds, Rs, Pp, h1, rfl⟩)
theorem mu_bit (l : Launch) (D : va_G) (g : G4) (hm km : Nat) (w : va_W) (hU : zk_wMU g hm km w) (i : Int32) : zk_M l yX8_bit (ws_ yX8_bit cX8_bit 2 (some .int)) (zk_R 0 0 0) D g [.ref hm, .int i] w (fun r_ w2 => r_ = some (.int (nI 0)) ∧ zk_wMU g hm 1 w2) := by
  obtain ⟨A, Ms, Cs, Ks, Ds, Rs, Pp, h1, rfl⟩ := hU
  exact fm_0 (v8_bit l D g hm (A 0) (A 1) (A 2) (A 3) (A 4) (A 5) km i) (fun v w1 hQ => by
    obtain ⟨rfl, rfl⟩ := hQ
    exact ⟨_, rfl, rfl, A, Ms, Cs, Ks, Ds, Rs, Pp, h1, rfl⟩)
theorem mu_burst (l : Launch) (D : va_G) (g : G4) (hm km : Nat) (w : va_W) (hU : zk_wMU g hm km w) (i m : Int32) : zk_M l yX8_burst (ws_ yX8_burst cX8_burst 5 none) (zk_R 1 0 0) D g [.ref hm, .int i, .int m] w (fun r_ w2 => r_ = none ∧ zk_wMU g hm 1 w2) := by
  obtain ⟨A, Ms, Cs, Ks, Ds, Rs, Pp, h1, rfl⟩ := hU
  exact fm_0 (v8_burst l D g hm (A 0) (A 1) (A 2) (A 3) (A 4) (A 5) km i m) (fun v w1 hQ => by
    obtain ⟨rfl, rfl⟩ := hQ
    exact ⟨_, rfl, rfl, A, Ms, Cs, Ks, Ds, Rs, Pp, h1, rfl⟩)
theorem mu_noise (l : Launch) (D : va_G) (g : G4) (hm km : Nat) (w : va_W) (hU : zk_wMU g hm km w) (seed rate : Int32) : zk_M l yX8_noise (ws_ yX8_noise cX8_noise 6 (some .int)) (zk_R 1 0 0) D g [.ref hm, .int seed, .int rate] w (fun r_ w2 => r_ = some (.int (nI 0)) ∧ zk_wMU g hm 1 w2) := by
  obtain ⟨A, Ms, Cs, Ks, Ds, Rs, Pp, h1, rfl⟩ := hU
  exact fm_0 (v8_noise l D g hm (A 0) (A 1) (A 2) (A 3) (A 4) (A 5) km seed rate) (fun v w1 hQ => by
    obtain ⟨rfl, rfl⟩ := hQ
    exact ⟨_, rfl, rfl, A, Ms, Cs, Ks, Ds, Rs, Pp, h1, rfl⟩)
theorem mu_synd (l : Launch) (D : va_G) (g : G4) (hm km : Nat) (w : va_W) (hU : zk_wMU g hm km w) (v j : Int32) : zk_M l yX8_syndrome (ws_ yX8_syndrome cX8_syndrome 5 (some .int)) (zk_R 1 0 0) D g [.ref hm, .int v, .int j] w (fun r_ w2 => r_ = some (.int (nI 0)) ∧ zk_wMU g hm 1 w2) := by
  obtain ⟨A, Ms, Cs, Ks, Ds, Rs, Pp, h1, rfl⟩ := hU
  exact fm_0 (v8_synd l D g hm (A 0) (A 1) (A 2) (A 3) (A 4) (A 5) km v j) (fun v w1 hQ => by
    obtain ⟨rfl, rfl⟩ := hQ
    exact ⟨_, rfl, rfl, A, Ms, Cs, Ks, Ds, Rs, Pp, h1, rfl⟩)
theorem mu_dec (l : Launch) (D : va_G) (g : G4) (hm km : Nat) (w : va_W) (hU : zk_wMU g hm km w) (x : Int32) : zk_M l yX8_decode (ws_ yX8_decode cX8_decode 3 (some .int)) (zk_R 3 0 0) D g [.ref hm, .int x] w (fun r_ w2 => r_ = some (.int (nI 0)) ∧ zk_wMU g hm 1 w2) := by
  obtain ⟨A, Ms, Cs, Ks, Ds, Rs, Pp, h1, rfl⟩ := hU
  exact fm_0 (v8_dec l D g hm (A 0) (A 1) (A 2) (A 3) (A 4) (A 5) km x) (fun v w1 hQ => by
    obtain ⟨rfl, rfl⟩ := hQ
    exact ⟨_, rfl, rfl, A, Ms, Cs, Ks, Ds, Rs, Pp, h1, rfl⟩)
theorem mu_load (l : Launch) (D : va_G) (g : G4) (hm km : Nat) (w : va_W) (hU : zk_wMU g hm km w) (x : Int32) : zk_M l yX8_load (ws_ yX8_load cX8_load 4 (some .int)) (zk_R 3 0 0) D g [.ref hm, .int x] w (fun r_ w2 => r_ = some (.int (nI 0)) ∧ zk_wMU g hm 1 w2) := by
  obtain ⟨A, Ms, Cs, Ks, Ds, Rs, Pp, h1, rfl⟩ := hU
  exact fm_0 (v8_load l D g hm (A 0) (A 1) (A 2) (A 3) (A 4) (A 5) km x) (fun v w1 hQ => by
    obtain ⟨rfl, rfl⟩ := hQ
    exact ⟨_, rfl, rfl, A, Ms, Cs, Ks, Ds, Rs, Pp, h1, rfl⟩)
theorem mu_save (l : Launch) (D : va_G) (g : G4) (hm km : Nat) (w : va_W) (hU : zk_wMU g hm km w) (x : Int32) : zk_M l yX8_save (ws_ yX8_save cX8_save 3 none) (zk_R 1 0 0) D g [.ref hm, .int x] w (fun r_ w2 => r_ = none ∧ zk_wMU g hm 1 w2) := by
  obtain ⟨A, Ms, Cs, Ks, Ds, Rs, Pp, h1, rfl⟩ := hU
  exact fm_0 (v8_save l D g hm (A 0) (A 1) (A 2) (A 3) (A 4) (A 5) km x) (fun v w1 hQ => by
    obtain ⟨rfl, rfl⟩ := hQ
    exact ⟨_, rfl, rfl, A, Ms, Cs, Ks, Ds, Rs, Pp, h1, rfl⟩)
theorem mu_enc (l : Launch) (D : va_G) (g : G4) (hm km : Nat) (w : va_W) (hU : zk_wMU g hm km w)  : zk_M l yX8_encode (ws_ yX8_encode cX8_encode 4 (some .int)) (zk_R 0 0 0) D g [.ref hm] w (fun r_ w2 => r_ = some (.int (nI 0)) ∧ zk_wMU g hm 1 w2) := by
  obtain ⟨A, Ms, Cs, Ks, Ds, Rs, Pp, h1, rfl⟩ := hU
  exact fm_0 (v8_enc l D g hm (A 0) (A 1) (A 2) (A 3) (A 4) (A 5) km ) (fun v w1 hQ => by
    obtain ⟨rfl, rfl⟩ := hQ
    exact ⟨_, rfl, rfl, A, Ms, Cs, Ks, Ds, Rs, Pp, h1, rfl⟩)
theorem mn_thrown (l : Launch) (D : va_G) (g : G4) (hm km : Nat) (st : Option zk_P) (w : va_W) (hB : zk_wM g hm st km w) (hok : ∀ s, st = some s → zk_okP s) : zk_M l yX8_thrown (ws_ yX8_thrown cX8_thrown 1 (some .int)) (zk_R 0 0 0) D g [.ref hm] w (fun r_ w2 => r_ = some (.int (nI km)) ∧ zk_wM g hm st km w2) := by
  obtain ⟨A, bg, p, dg, n, t, dep, gn, ck, Ms, Cs, Ks, Ds, Rs, Pp, h1, rfl, hcl⟩ := zk_wM_w hB hok
  exact fm_0 (m8_thrown l D g hm (A 0) (A 1) (A 2) (A 3) (A 4) (A 5) km bg p dg n t dep gn ck) (fun v w1 hQ => by
    obtain ⟨rfl, rfl⟩ := hQ
    exact ⟨_, rfl, rfl, hcl km⟩)
theorem fm_012356 {l : Launch} {y : MethodName} {ws : List Cond} {rm : Room} {D : va_G} {g : G4} {As : List Value} {x0 x1 x2 x3 x4 x5 x6 : Nat × va_E} {Qx Qx' : Option Value → va_W → Prop} (hM : zk_M l y ws rm D g As [x0, x1, x2, x3, x5, x6] Qx) (hq : ∀ v w1, Qx v w1 → ∃ y0 y1 y2 y3 y5 y6, w1 = [y0, y1, y2, y3, y5, y6] ∧ Qx' v [y0, y1, y2, y3, x4, y5, y6]) : zk_M l y ws rm D g As [x0, x1, x2, x3, x4, x5, x6] Qx' :=
  zk_M.frame (wr := [x4]) hM [0, 1, 2, 3, 5, 6] [4] rfl rfl (by decide +kernel) (by decide +kernel) (by decide +kernel) (fun v w1 h => by obtain ⟨y0, y1, y2, y3, y5, y6, rfl, h2⟩ := hq v w1 h; exact ⟨_, h2, [1, 2, 3, 4, 0, 5, 6], by decide +kernel, rfl⟩)
theorem zk_kk_0 : zk_kk [zk_z4, zk_z4, zk_z4, zk_z4] (List.replicate 16 0) := by unfold zk_kk mg; exact ⟨rfl, fun i j hi hj => (by decide : ∀ i, i < 4 → ∀ j, j < 4 → (List.replicate 16 0).getD (4 * i + j) 0 = ([zk_z4, zk_z4, zk_z4, zk_z4].getD i []).getD j 0) i hi j hj⟩
set_option maxHeartbeats 4000000 in
theorem mn_begin (l : Launch) (D : va_G) (g : G4) (hm km : Nat) (st : Option zk_P) (w : va_W) (hB : zk_wM g hm st km w) (hok : ∀ s, st = some s → zk_okP s) (x t dep : Nat) (t1 : 1 ≤ t) (t3 : t ≤ 3) (d1 : 1 ≤ dep) (d4 : dep ≤ 4) (x8 : 8 ≤ x) (x63 : x ≤ 63) (hpr : (x, zk_nn x) ∈ zk_pr) : zk_M l yX8_begin (ws_ yX8_begin cX8_begin 7 (some .int)) (zk_R 3 0 0) D g [.ref hm, .int (nI x), .int (nI t), .int (nI dep)] w (fun r_ w2 => r_ = some (.int (nI (kdn x t))) ∧ zk_wMB g hm (x, t, dep, zk_z4, zk_z4, [zk_z4, zk_z4, zk_z4, zk_z4]) 0 w2) := by
  obtain ⟨A, bg, p0, dg0, n0, t0, dep0, g0, c0, Ms, Cs, Ks, Ds, Rs, Pp, ⟨h1, h2, h3, h4, h5, h6⟩, rfl, hcl⟩ := zk_wM_w hB hok
  exact fm_012356 (m8_begin l D g hm (A 0) (A 1) (A 2) (A 3) (A 4) (A 5) km bg p0 dg0 n0 t0 dep0 g0 c0 x t dep t1 t3 d1 d4 x8 x63 Ms Cs Ks Rs Pp h1 h2 h3 h5 h6 hpr) (fun v w1 hQ => by
    obtain ⟨rfl, P1, R1, q1, q2, q3, rfl⟩ := hQ
    exact ⟨_, _, _, _, _, _, rfl, rfl, A, _, Ds, R1, P1, zk_kk_0, h4, q2, q1, q3, rfl⟩)
theorem mw_begin_p (l : Launch) (D : va_G) (g : G4) (hm km : Nat) (st : Option zk_P) (w : va_W) (hB : zk_wM g hm st km w) (hok : ∀ s, st = some s → zk_okP s) (x t dep : Nat) (t1 : 1 ≤ t) (t3 : t ≤ 3) (d1 : 1 ≤ dep) (d4 : dep ≤ 4) (x8 : 8 ≤ x) (x63 : x ≤ 63) (hpr : (x, zk_nn x) ∉ zk_pr) : zk_M l yX8_begin (ws_ yX8_begin cX8_begin 7 (some .int)) (zk_R 3 0 0) D g [.ref hm, .int (nI x), .int (nI t), .int (nI dep)] w (fun r_ w2 => r_ = some (.int (nI 0)) ∧ zk_wM g hm st 2 w2) := by
  obtain ⟨A, bg, p0, dg0, n0, t0, dep0, g0, c0, Ms, Cs, Ks, Ds, Rs, Pp, ⟨h1, h2, h3, h4, h5, h6⟩, rfl, hcl⟩ := zk_wM_w hB hok
  exact fm_0 (w8_begin_p l D g hm (A 0) (A 1) (A 2) (A 3) (A 4) (A 5) km bg p0 dg0 n0 t0 dep0 g0 c0 x t dep t1 t3 d1 d4 x8 x63 hpr) (fun v w1 hQ => by
    obtain ⟨rfl, rfl⟩ := hQ
    exact ⟨_, rfl, rfl, hcl 2⟩)
theorem mw_begin_a (l : Launch) (D : va_G) (g : G4) (hm km : Nat) (st : Option zk_P) (w : va_W) (hB : zk_wM g hm st km w) (hok : ∀ s, st = some s → zk_okP s) (x t dep : Int32) (h0_ : ¬ (nI 1 ≤ t ∧ t ≤ nI 3)) : zk_M l yX8_begin (ws_ yX8_begin cX8_begin 7 (some .int)) (zk_R 3 0 0) D g [.ref hm, .int x, .int t, .int dep] w (fun r_ w2 => r_ = some (.int (nI 0)) ∧ zk_wM g hm st 1 w2) := by
  obtain ⟨A, bg, p0, dg0, n0, t0, dep0, g0, c0, Ms, Cs, Ks, Ds, Rs, Pp, ⟨h1, h2, h3, h4, h5, h6⟩, rfl, hcl⟩ := zk_wM_w hB hok
  exact fm_0 (w8_begin_a l D g hm (A 0) (A 1) (A 2) (A 3) (A 4) (A 5) km bg p0 dg0 n0 t0 dep0 g0 c0 x t dep h0_) (fun v w1 hQ => by
    obtain ⟨rfl, rfl⟩ := hQ
    exact ⟨_, rfl, rfl, hcl 1⟩)
theorem mw_begin_b (l : Launch) (D : va_G) (g : G4) (hm km : Nat) (st : Option zk_P) (w : va_W) (hB : zk_wM g hm st km w) (hok : ∀ s, st = some s → zk_okP s) (x t dep : Int32) (h1_ : nI 1 ≤ t ∧ t ≤ nI 3) (h0_ : ¬ (nI 1 ≤ dep ∧ dep ≤ nI 4)) : zk_M l yX8_begin (ws_ yX8_begin cX8_begin 7 (some .int)) (zk_R 3 0 0) D g [.ref hm, .int x, .int t, .int dep] w (fun r_ w2 => r_ = some (.int (nI 0)) ∧ zk_wM g hm st 1 w2) := by
  obtain ⟨A, bg, p0, dg0, n0, t0, dep0, g0, c0, Ms, Cs, Ks, Ds, Rs, Pp, ⟨h1, h2, h3, h4, h5, h6⟩, rfl, hcl⟩ := zk_wM_w hB hok
  exact fm_0 (w8_begin_b l D g hm (A 0) (A 1) (A 2) (A 3) (A 4) (A 5) km bg p0 dg0 n0 t0 dep0 g0 c0 x t dep h1_ h0_) (fun v w1 hQ => by
    obtain ⟨rfl, rfl⟩ := hQ
    exact ⟨_, rfl, rfl, hcl 1⟩)
theorem mw_begin_c (l : Launch) (D : va_G) (g : G4) (hm km : Nat) (st : Option zk_P) (w : va_W) (hB : zk_wM g hm st km w) (hok : ∀ s, st = some s → zk_okP s) (x t dep : Int32) (h1_ : nI 1 ≤ t ∧ t ≤ nI 3) (h2_ : nI 1 ≤ dep ∧ dep ≤ nI 4) (h0_ : ¬ (nI 8 ≤ x ∧ x ≤ nI 63)) : zk_M l yX8_begin (ws_ yX8_begin cX8_begin 7 (some .int)) (zk_R 3 0 0) D g [.ref hm, .int x, .int t, .int dep] w (fun r_ w2 => r_ = some (.int (nI 0)) ∧ zk_wM g hm st 1 w2) := by
  obtain ⟨A, bg, p0, dg0, n0, t0, dep0, g0, c0, Ms, Cs, Ks, Ds, Rs, Pp, ⟨h1, h2, h3, h4, h5, h6⟩, rfl, hcl⟩ := zk_wM_w hB hok
  exact fm_0 (w8_begin_c l D g hm (A 0) (A 1) (A 2) (A 3) (A 4) (A 5) km bg p0 dg0 n0 t0 dep0 g0 c0 x t dep h1_ h2_ h0_) (fun v w1 hQ => by
    obtain ⟨rfl, rfl⟩ := hQ
    exact ⟨_, rfl, rfl, hcl 1⟩)
