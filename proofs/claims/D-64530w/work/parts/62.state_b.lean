/-! the component in use: its methods -/
set_option maxHeartbeats 4000000 in
theorem cn_length (l : Launch) (D : va_G) (g : G4) (hn : Nat) (st : zk_P) (w : va_W) (hB : zk_wB g hn st w) (hok : zk_okP st)  : zk_M l yX1_length (ws_ yX1_length cX1_length 1 (some .int)) (zk_R 7 1 6) D g [.ref hn] w (fun r_ w2 => r_ = some (.int (nI (zk_nn st.1))) ∧ zk_wB g hn (st) w2) := by
  obtain ⟨A, T, F, M, hF, hj, rfl⟩ := hB
  have hok0 := hok
  obtain ⟨o1, ⟨o2, o3⟩, ⟨o4, o5⟩, o6, o7, o8, o9, o10, o11, o12, o13⟩ := hok0
  have hn9 := zk_okn hok
  exact fr_0 (m1_length l D g hn (A 0) (A 1) st.2.2.1 (A 2) (A 3) (A 4) (A 5) (A 6) (A 7) (A 10) (A 11) st.2.1 (gnr st.1 (zk_nn st.1) st.2.1) (kdn st.1 st.2.1) (A 8) (A 9) (zk_nn st.1)) (fun v w1 hQ => by
    obtain ⟨rfl, rfl⟩ := hQ
    exact ⟨_, _, _, rfl, ⟨rfl, A, T, F, M, hF, hj, rfl⟩⟩)
set_option maxHeartbeats 4000000 in
theorem cn_gen (l : Launch) (D : va_G) (g : G4) (hn : Nat) (st : zk_P) (w : va_W) (hB : zk_wB g hn st w) (hok : zk_okP st)  : zk_M l yX1_generator (ws_ yX1_generator cX1_generator 1 (some .int)) (zk_R 7 1 6) D g [.ref hn] w (fun r_ w2 => r_ = some (.int (nI (gnr st.1 (zk_nn st.1) st.2.1))) ∧ zk_wB g hn (st) w2) := by
  obtain ⟨A, T, F, M, hF, hj, rfl⟩ := hB
  have hok0 := hok
  obtain ⟨o1, ⟨o2, o3⟩, ⟨o4, o5⟩, o6, o7, o8, o9, o10, o11, o12, o13⟩ := hok0
  have hn9 := zk_okn hok
  exact fr_1 (m1_gen l D g hn (A 0) (A 1) st.2.2.1 (A 2) (A 3) (A 4) (A 5) (A 6) (A 7) (A 10) (A 11) st.2.1 (gnr st.1 (zk_nn st.1) st.2.1) (kdn st.1 st.2.1)) (fun v w1 hQ => by
    obtain ⟨rfl, rfl⟩ := hQ
    exact ⟨_, _, rfl, ⟨rfl, A, T, F, M, hF, hj, rfl⟩⟩)
set_option maxHeartbeats 4000000 in
theorem cn_power (l : Launch) (D : va_G) (g : G4) (hn : Nat) (st : zk_P) (w : va_W) (hB : zk_wB g hn st w) (hok : zk_okP st) (x : Nat) (x31 : x < 2 ^ 31) : zk_M l yX1_power (ws_ yX1_power cX1_power 2 (some .int)) (zk_R 7 1 6) D g [.ref hn, .int (nI x)] w (fun r_ w2 => r_ = some (.int (nI (pw st.1 (x % zk_nn st.1)))) ∧ zk_wB g hn (st) w2) := by
  obtain ⟨A, T, F, M, hF, hj, rfl⟩ := hB
  have hok0 := hok
  obtain ⟨o1, ⟨o2, o3⟩, ⟨o4, o5⟩, o6, o7, o8, o9, o10, o11, o12, o13⟩ := hok0
  have hn9 := zk_okn hok
  exact fr_2 (m1_power l D g hn (A 0) (A 1) st.2.2.1 (A 2) (A 3) (A 4) (A 5) (A 6) (A 7) (A 10) (A 11) st.2.1 (gnr st.1 (zk_nn st.1) st.2.1) (kdn st.1 st.2.1) (A 8) (A 9) st.1 (zk_nn st.1) (F 0) (F 1) hF x x31) (fun v w1 hQ => by
    obtain ⟨rfl, rfl⟩ := hQ
    exact ⟨_, _, _, _, _, rfl, ⟨rfl, A, T, F, M, hF, hj, rfl⟩⟩)
set_option maxHeartbeats 4000000 in
theorem cn_log (l : Launch) (D : va_G) (g : G4) (hn : Nat) (st : zk_P) (w : va_W) (hB : zk_wB g hn st w) (hok : zk_okP st) (x : Nat) (x1 : 1 ≤ x) (xn_ : x ≤ zk_nn st.1) : zk_M l yX1_log (ws_ yX1_log cX1_log 2 (some .int)) (zk_R 7 1 6) D g [.ref hn, .int (nI x)] w (fun r_ w2 => r_ = some (.int (nI (lg st.1 x))) ∧ zk_wB g hn (st) w2) := by
  obtain ⟨A, T, F, M, hF, hj, rfl⟩ := hB
  have hok0 := hok
  obtain ⟨o1, ⟨o2, o3⟩, ⟨o4, o5⟩, o6, o7, o8, o9, o10, o11, o12, o13⟩ := hok0
  have hn9 := zk_okn hok
  exact fr_2 (m1_log l D g hn (A 0) (A 1) st.2.2.1 (A 2) (A 3) (A 4) (A 5) (A 6) (A 7) (A 10) (A 11) st.2.1 (gnr st.1 (zk_nn st.1) st.2.1) (kdn st.1 st.2.1) (A 8) (A 9) st.1 (zk_nn st.1) (F 0) (F 1) hF x x1 xn_) (fun v w1 hQ => by
    obtain ⟨rfl, rfl⟩ := hQ
    exact ⟨_, _, _, _, _, rfl, ⟨rfl, A, T, F, M, hF, hj, rfl⟩⟩)
set_option maxHeartbeats 4000000 in
theorem cn_times (l : Launch) (D : va_G) (g : G4) (hn : Nat) (st : zk_P) (w : va_W) (hB : zk_wB g hn st w) (hok : zk_okP st) (a b : Nat) (an : a ≤ zk_nn st.1) (bn : b ≤ zk_nn st.1) : zk_M l yX1_times (ws_ yX1_times cX1_times 3 (some .int)) (zk_R 7 1 6) D g [.ref hn, .int (nI a), .int (nI b)] w (fun r_ w2 => r_ = some (.int (nI (gm st.1 a b))) ∧ zk_wB g hn (st) w2) := by
  obtain ⟨A, T, F, M, hF, hj, rfl⟩ := hB
  have hok0 := hok
  obtain ⟨o1, ⟨o2, o3⟩, ⟨o4, o5⟩, o6, o7, o8, o9, o10, o11, o12, o13⟩ := hok0
  have hn9 := zk_okn hok
  exact fr_2 (m1_times l D g hn (A 0) (A 1) st.2.2.1 (A 2) (A 3) (A 4) (A 5) (A 6) (A 7) (A 10) (A 11) st.2.1 (gnr st.1 (zk_nn st.1) st.2.1) (kdn st.1 st.2.1) (A 8) (A 9) st.1 (zk_nn st.1) (F 0) (F 1) hF a b an bn) (fun v w1 hQ => by
    obtain ⟨rfl, rfl⟩ := hQ
    exact ⟨_, _, _, _, _, rfl, ⟨rfl, A, T, F, M, hF, hj, rfl⟩⟩)
set_option maxHeartbeats 4000000 in
theorem cn_put (l : Launch) (D : va_G) (g : G4) (hn : Nat) (st : zk_P) (w : va_W) (hB : zk_wB g hn st w) (hok : zk_okP st) (i b : Nat) (hi : i < st.2.2.1 * kdn st.1 st.2.1) (b1_ : b ≤ 1) : zk_M l yX1_put (ws_ yX1_put cX1_put 4 none) (zk_R 7 1 6) D g [.ref hn, .int (nI i), .int (nI b)] w (fun r_ w2 => r_ = none ∧ zk_wB g hn ((st.1, st.2.1, st.2.2.1, st.2.2.2.1.set (i / kdn st.1 st.2.1) (putw (st.2.2.2.1.getD (i / kdn st.1 st.2.1) 0) (i % kdn st.1 st.2.1) b), st.2.2.2.2.1, st.2.2.2.2.2)) w2) := by
  obtain ⟨A, T, F, M, hF, hj, rfl⟩ := hB
  have hok0 := hok
  obtain ⟨o1, ⟨o2, o3⟩, ⟨o4, o5⟩, o6, o7, o8, o9, o10, o11, o12, o13⟩ := hok0
  have hn9 := zk_okn hok
  exact fr_3 (m1_put l D g hn (A 0) (A 1) st.2.2.1 (A 2) (A 3) (A 4) (A 5) (A 6) (A 7) (A 10) (A 11) st.2.1 (gnr st.1 (zk_nn st.1) st.2.1) (kdn st.1 st.2.1) st.2.2.2.1 o6 o5 (by omega) (by omega) i b hi b1_) (fun v w1 hQ => by
    obtain ⟨rfl, rfl⟩ := hQ
    exact ⟨_, _, _, rfl, ⟨rfl, A, T, F, M, hF, hj, rfl⟩⟩)
set_option maxHeartbeats 4000000 in
theorem cn_get (l : Launch) (D : va_G) (g : G4) (hn : Nat) (st : zk_P) (w : va_W) (hB : zk_wB g hn st w) (hok : zk_okP st) (i : Nat) (hi : i < st.2.2.1 * kdn st.1 st.2.1) : zk_M l yX1_get (ws_ yX1_get cX1_get 2 (some .int)) (zk_R 7 1 6) D g [.ref hn, .int (nI i)] w (fun r_ w2 => r_ = some (.int (nI (st.2.2.2.1.getD (i / kdn st.1 st.2.1) 0 >>> (i % kdn st.1 st.2.1) &&& 1))) ∧ zk_wB g hn (st) w2) := by
  obtain ⟨A, T, F, M, hF, hj, rfl⟩ := hB
  have hok0 := hok
  obtain ⟨o1, ⟨o2, o3⟩, ⟨o4, o5⟩, o6, o7, o8, o9, o10, o11, o12, o13⟩ := hok0
  have hn9 := zk_okn hok
  exact fr_3 (m1_get l D g hn (A 0) (A 1) st.2.2.1 (A 2) (A 3) (A 4) (A 5) (A 6) (A 7) (A 10) (A 11) st.2.1 (gnr st.1 (zk_nn st.1) st.2.1) (kdn st.1 st.2.1) st.2.2.2.1 o6 o5 (by omega) (by omega) (fun j => zk_p31 (o9 j) (by omega)) i hi) (fun v w1 hQ => by
    obtain ⟨rfl, rfl⟩ := hQ
    exact ⟨_, _, _, rfl, ⟨rfl, A, T, F, M, hF, hj, rfl⟩⟩)
set_option maxHeartbeats 4000000 in
theorem cn_bit (l : Launch) (D : va_G) (g : G4) (hn : Nat) (st : zk_P) (w : va_W) (hB : zk_wB g hn st w) (hok : zk_okP st) (i : Nat) (hi : i < st.2.2.1 * zk_nn st.1) : zk_M l yX1_bit (ws_ yX1_bit cX1_bit 2 (some .int)) (zk_R 7 1 6) D g [.ref hn, .int (nI i)] w (fun r_ w2 => r_ = some (.int (nI (st.2.2.2.2.1.getD (i % st.2.2.1) 0 >>> (i / st.2.2.1) &&& 1))) ∧ zk_wB g hn (st) w2) := by
  obtain ⟨A, T, F, M, hF, hj, rfl⟩ := hB
  have hok0 := hok
  obtain ⟨o1, ⟨o2, o3⟩, ⟨o4, o5⟩, o6, o7, o8, o9, o10, o11, o12, o13⟩ := hok0
  have hn9 := zk_okn hok
  exact fr_4 (m1_bit l D g hn (A 0) (A 1) st.2.2.1 (A 2) (A 3) (A 4) (A 5) (A 6) (A 7) (A 10) (A 11) st.2.1 (gnr st.1 (zk_nn st.1) st.2.1) (kdn st.1 st.2.1) (A 8) (A 9) (zk_nn st.1) st.2.2.2.2.1 o7 o5 o4 (by omega) (by omega) (fun j => zk_p31 (o10 j) (by omega)) i hi) (fun v w1 hQ => by
    obtain ⟨rfl, rfl⟩ := hQ
    exact ⟨_, _, _, _, rfl, ⟨rfl, A, T, F, M, hF, hj, rfl⟩⟩)
set_option maxHeartbeats 4000000 in
theorem cn_burst (l : Launch) (D : va_G) (g : G4) (hn : Nat) (st : zk_P) (w : va_W) (hB : zk_wB g hn st w) (hok : zk_okP st) (i m : Nat) (hi : i < st.2.2.1 * zk_nn st.1) (hm : m ≤ st.2.2.1 * zk_nn st.1 - i) (m1 : 1 ≤ m) (m124 : m ≤ 124) : zk_M l yX1_burst (ws_ yX1_burst cX1_burst 5 none) (zk_R 7 1 6) D g [.ref hn, .int (nI i), .int (nI m)] w (fun r_ w2 => r_ = none ∧ zk_wB g hn ((st.1, st.2.1, st.2.2.1, st.2.2.2.1, zk_it (flF st.2.2.1) m i st.2.2.2.2.1, st.2.2.2.2.2)) w2) := by
  obtain ⟨A, T, F, M, hF, hj, rfl⟩ := hB
  have hok0 := hok
  obtain ⟨o1, ⟨o2, o3⟩, ⟨o4, o5⟩, o6, o7, o8, o9, o10, o11, o12, o13⟩ := hok0
  have hn9 := zk_okn hok
  exact fr_4 (m1_burst l D g hn (A 0) (A 1) st.2.2.1 (A 2) (A 3) (A 4) (A 5) (A 6) (A 7) (A 10) (A 11) st.2.1 (gnr st.1 (zk_nn st.1) st.2.1) (kdn st.1 st.2.1) (A 8) (A 9) (zk_nn st.1) st.2.2.2.2.1 o7 o5 o4 (by omega) (by omega) i m hi hm m1 m124) (fun v w1 hQ => by
    obtain ⟨rfl, rfl⟩ := hQ
    exact ⟨_, _, _, _, rfl, ⟨rfl, A, T, F, M, hF, hj, rfl⟩⟩)
set_option maxHeartbeats 4000000 in
theorem cn_noise (l : Launch) (D : va_G) (g : G4) (hn : Nat) (st : zk_P) (w : va_W) (hB : zk_wB g hn st w) (hok : zk_okP st) (seed rate : Int32) (hr_ : nI 0 ≤ rate ∧ rate ≤ nI 1000) : zk_M l yX1_noise (ws_ yX1_noise cX1_noise 6 (some .int)) (zk_R 7 1 6) D g [.ref hn, .int seed, .int rate] w (fun r_ w2 => r_ = some (.int (nI (zk_it (nzF st.2.2.1 rate) (st.2.2.1 * zk_nn st.1) 0 (seed, st.2.2.2.2.1, 0)).2.2)) ∧ zk_wB g hn ((st.1, st.2.1, st.2.2.1, st.2.2.2.1, (zk_it (nzF st.2.2.1 rate) (st.2.2.1 * zk_nn st.1) 0 (seed, st.2.2.2.2.1, 0)).2.1, st.2.2.2.2.2)) w2) := by
  obtain ⟨A, T, F, M, hF, hj, rfl⟩ := hB
  have hok0 := hok
  obtain ⟨o1, ⟨o2, o3⟩, ⟨o4, o5⟩, o6, o7, o8, o9, o10, o11, o12, o13⟩ := hok0
  have hn9 := zk_okn hok
  exact fr_4 (m1_noise l D g hn (A 0) (A 1) st.2.2.1 (A 2) (A 3) (A 4) (A 5) (A 6) (A 7) (A 10) (A 11) st.2.1 (gnr st.1 (zk_nn st.1) st.2.1) (kdn st.1 st.2.1) (A 8) (A 9) (zk_nn st.1) st.2.2.2.2.1 o7 o5 o4 (by omega) (by omega) seed rate hr_) (fun v w1 hQ => by
    obtain ⟨rfl, rfl⟩ := hQ
    exact ⟨_, _, _, _, rfl, ⟨rfl, A, T, F, M, hF, hj, rfl⟩⟩)
set_option maxHeartbeats 4000000 in
theorem cn_synd (l : Launch) (D : va_G) (g : G4) (hn : Nat) (st : zk_P) (w : va_W) (hB : zk_wB g hn st w) (hok : zk_okP st) (v j : Nat) (hv_ : v < st.2.2.1) (j1_ : 1 ≤ j) (j2_ : j ≤ 2 * st.2.1) : zk_M l yX1_syndrome (ws_ yX1_syndrome cX1_syndrome 3 (some .int)) (zk_R 7 1 6) D g [.ref hn, .int (nI v), .int (nI j)] w (fun r_ w2 => r_ = some (.int (nI (atv st.1 (zk_nn st.1) (st.2.2.2.2.1.getD v 0) j))) ∧ zk_wB g hn (st) w2) := by
  obtain ⟨A, T, F, M, hF, hj, rfl⟩ := hB
  have hok0 := hok
  obtain ⟨o1, ⟨o2, o3⟩, ⟨o4, o5⟩, o6, o7, o8, o9, o10, o11, o12, o13⟩ := hok0
  have hn9 := zk_okn hok
  exact fr_5 (m1_synd l D g hn (A 0) (A 1) st.2.2.1 (A 2) (A 3) (A 4) (A 5) (A 6) (A 7) (A 10) (A 11) st.2.1 (gnr st.1 (zk_nn st.1) st.2.1) (kdn st.1 st.2.1) (A 8) (A 9) st.1 (zk_nn st.1) (F 0) (F 1) hF st.2.2.2.2.1 o7 (fun j => zk_p31 (o10 j) (by omega)) o5 o3 v j hv_ j1_ j2_) (fun v w1 hQ => by
    obtain ⟨rfl, rfl⟩ := hQ
    exact ⟨_, _, _, _, _, _, rfl, ⟨rfl, A, T, F, M, hF, hj, rfl⟩⟩)
set_option maxHeartbeats 4000000 in
theorem cn_enc (l : Launch) (D : va_G) (g : G4) (hn : Nat) (st : zk_P) (w : va_W) (hB : zk_wB g hn st w) (hok : zk_okP st)  : zk_M l yX1_encode (ws_ yX1_encode cX1_encode 3 (some .int)) (zk_R 7 1 6) D g [.ref hn] w (fun r_ w2 => r_ = some (.int (nI (zk_it (noF (gnr st.1 (zk_nn st.1) st.2.1) (zk_nn st.1 - kdn st.1 st.2.1) (zk_nn st.1) st.2.2.2.1) st.2.2.1 0 0))) ∧ zk_wB g hn ((st.1, st.2.1, st.2.2.1, st.2.2.2.1, zk_it (ncF (gnr st.1 (zk_nn st.1) st.2.1) (zk_nn st.1 - kdn st.1 st.2.1) (zk_nn st.1) st.2.2.2.1) st.2.2.1 0 st.2.2.2.2.1, st.2.2.2.2.2)) w2) := by
  obtain ⟨A, T, F, M, hF, hj, rfl⟩ := hB
  have hok0 := hok
  obtain ⟨o1, ⟨o2, o3⟩, ⟨o4, o5⟩, o6, o7, o8, o9, o10, o11, o12, o13⟩ := hok0
  have hn9 := zk_okn hok
  obtain ⟨-, -, g3, g4⟩ := rst_lo _ o1 st.2.1 (by omega) o2
  dsimp only at g3 g4
  have eg : zk_nn st.1 - kdn st.1 st.2.1 = lgn st.1 (zk_nn st.1) st.2.1 := by omega
  have hg1 : gnr st.1 (zk_nn st.1) st.2.1 < 2 ^ (zk_nn st.1 - kdn st.1 st.2.1 + 1) := by rw [eg]; exact g3
  have hg2 : (gnr st.1 (zk_nn st.1) st.2.1).testBit (zk_nn st.1 - kdn st.1 st.2.1) = true := by rw [eg]; exact g4
  exact fr_6 (m1_enc l D g hn (A 0) (A 1) st.2.2.1 (A 2) (A 3) (A 4) (A 5) (A 6) (A 7) (A 10) (A 11) st.2.1 (gnr st.1 (zk_nn st.1) st.2.1) (kdn st.1 st.2.1) (A 8) (A 9) (zk_nn st.1) st.2.2.2.1 o6 o5 (by omega) (by omega) hg1 hg2 o9 st.2.2.2.2.1 o7) (fun v w1 hQ => by
    obtain ⟨rfl, rfl⟩ := hQ
    exact ⟨_, _, _, _, _, rfl, ⟨rfl, A, T, F, M, hF, hj, rfl⟩⟩)
set_option maxHeartbeats 4000000 in
theorem cn_save0 (l : Launch) (D : va_G) (g : G4) (hn : Nat) (st : zk_P) (w : va_W) (hB : zk_wB g hn st w) (hok : zk_okP st)  : zk_M l yX1_save (ws_ yX1_save cX1_save 2 none) (zk_R 7 1 6) D g [.ref hn, .int (nI 0)] w (fun r_ w2 => r_ = none ∧ zk_wB g hn ((st.1, st.2.1, st.2.2.1, st.2.2.2.1, st.2.2.2.2.1, zk_ks 0 st.2.2.2.2.1 st.2.2.2.2.2)) w2) := by
  obtain ⟨A, T, F, M, hF, hj, rfl⟩ := hB
  have hok0 := hok
  obtain ⟨o1, ⟨o2, o3⟩, ⟨o4, o5⟩, o6, o7, o8, o9, o10, o11, o12, o13⟩ := hok0
  have hn9 := zk_okn hok
  exact fr_7 (m1_save0 l D g hn (A 0) (A 1) st.2.2.1 (A 2) (A 3) (A 4) (A 5) (A 6) (A 19) (A 20) (A 21) (A 22) st.2.2.2.2.1 (st.2.2.2.2.2.getD 0 []) o7 (o8.2 0 (by decide))) (fun v w1 hQ => by
    obtain ⟨rfl, rfl⟩ := hQ
    exact ⟨_, _, _, _, rfl, ⟨rfl, A, T, F, M, hF, hj, rfl⟩⟩)
set_option maxHeartbeats 4000000 in
theorem cn_save1 (l : Launch) (D : va_G) (g : G4) (hn : Nat) (st : zk_P) (w : va_W) (hB : zk_wB g hn st w) (hok : zk_okP st)  : zk_M l yX1_save (ws_ yX1_save cX1_save 2 none) (zk_R 7 1 6) D g [.ref hn, .int (nI 1)] w (fun r_ w2 => r_ = none ∧ zk_wB g hn ((st.1, st.2.1, st.2.2.1, st.2.2.2.1, st.2.2.2.2.1, zk_ks 1 st.2.2.2.2.1 st.2.2.2.2.2)) w2) := by
  obtain ⟨A, T, F, M, hF, hj, rfl⟩ := hB
  have hok0 := hok
  obtain ⟨o1, ⟨o2, o3⟩, ⟨o4, o5⟩, o6, o7, o8, o9, o10, o11, o12, o13⟩ := hok0
  have hn9 := zk_okn hok
  exact fr_8 (m1_save1 l D g hn (A 0) (A 1) st.2.2.1 (A 2) (A 3) (A 4) (A 5) (A 6) (A 20) (A 19) (A 21) (A 22) st.2.2.2.2.1 (st.2.2.2.2.2.getD 1 []) o7 (o8.2 1 (by decide))) (fun v w1 hQ => by
    obtain ⟨rfl, rfl⟩ := hQ
    exact ⟨_, _, _, _, rfl, ⟨rfl, A, T, F, M, hF, hj, rfl⟩⟩)
set_option maxHeartbeats 4000000 in
theorem cn_save2 (l : Launch) (D : va_G) (g : G4) (hn : Nat) (st : zk_P) (w : va_W) (hB : zk_wB g hn st w) (hok : zk_okP st)  : zk_M l yX1_save (ws_ yX1_save cX1_save 2 none) (zk_R 7 1 6) D g [.ref hn, .int (nI 2)] w (fun r_ w2 => r_ = none ∧ zk_wB g hn ((st.1, st.2.1, st.2.2.1, st.2.2.2.1, st.2.2.2.2.1, zk_ks 2 st.2.2.2.2.1 st.2.2.2.2.2)) w2) := by
  obtain ⟨A, T, F, M, hF, hj, rfl⟩ := hB
  have hok0 := hok
  obtain ⟨o1, ⟨o2, o3⟩, ⟨o4, o5⟩, o6, o7, o8, o9, o10, o11, o12, o13⟩ := hok0
  have hn9 := zk_okn hok
  exact fr_9 (m1_save2 l D g hn (A 0) (A 1) st.2.2.1 (A 2) (A 3) (A 4) (A 5) (A 6) (A 21) (A 19) (A 20) (A 22) st.2.2.2.2.1 (st.2.2.2.2.2.getD 2 []) o7 (o8.2 2 (by decide))) (fun v w1 hQ => by
    obtain ⟨rfl, rfl⟩ := hQ
    exact ⟨_, _, _, _, rfl, ⟨rfl, A, T, F, M, hF, hj, rfl⟩⟩)
set_option maxHeartbeats 4000000 in
theorem cn_save3 (l : Launch) (D : va_G) (g : G4) (hn : Nat) (st : zk_P) (w : va_W) (hB : zk_wB g hn st w) (hok : zk_okP st)  : zk_M l yX1_save (ws_ yX1_save cX1_save 2 none) (zk_R 7 1 6) D g [.ref hn, .int (nI 3)] w (fun r_ w2 => r_ = none ∧ zk_wB g hn ((st.1, st.2.1, st.2.2.1, st.2.2.2.1, st.2.2.2.2.1, zk_ks 3 st.2.2.2.2.1 st.2.2.2.2.2)) w2) := by
  obtain ⟨A, T, F, M, hF, hj, rfl⟩ := hB
  have hok0 := hok
  obtain ⟨o1, ⟨o2, o3⟩, ⟨o4, o5⟩, o6, o7, o8, o9, o10, o11, o12, o13⟩ := hok0
  have hn9 := zk_okn hok
  exact fr_10 (m1_save3 l D g hn (A 0) (A 1) st.2.2.1 (A 2) (A 3) (A 4) (A 5) (A 6) (A 22) (A 19) (A 20) (A 21) st.2.2.2.2.1 (st.2.2.2.2.2.getD 3 []) o7 (o8.2 3 (by decide))) (fun v w1 hQ => by
    obtain ⟨rfl, rfl⟩ := hQ
    exact ⟨_, _, _, _, rfl, ⟨rfl, A, T, F, M, hF, hj, rfl⟩⟩)
set_option maxHeartbeats 4000000 in
theorem ct_power (l : Launch) (hfl : l.flags = flags0) (D : va_G) (g : G4) (hn : Nat) (st : zk_P) (w : va_W) (hB : zk_wB g hn st w) (hok : zk_okP st) (x : Int32) (hx0 : x < 0) : zk_MT l yX1_power (ws_ yX1_power cX1_power 2 (some .int)) (zk_R 7 1 6) D g [.ref hn, .int x] w zk_IAE (fun w2 => zk_wB g hn (st) w2) := by
  obtain ⟨A, T, F, M, hF, hj, rfl⟩ := hB
  have hok0 := hok
  obtain ⟨o1, ⟨o2, o3⟩, ⟨o4, o5⟩, o6, o7, o8, o9, o10, o11, o12, o13⟩ := hok0
  have hn9 := zk_okn hok
  exact fr_11T (t1_power l hfl D g hn (A 0) (A 1) st.2.2.1 (A 2) (A 3) (A 4) (A 5) (A 6) x hx0) (fun w1 hQ => by
    obtain rfl := hQ
    exact ⟨_, rfl, ⟨A, T, F, M, hF, hj, rfl⟩⟩)
set_option maxHeartbeats 4000000 in
theorem ct_log (l : Launch) (hfl : l.flags = flags0) (D : va_G) (g : G4) (hn : Nat) (st : zk_P) (w : va_W) (hB : zk_wB g hn st w) (hok : zk_okP st) (x : Int32) (h0_ : ¬ (nI 1 ≤ x ∧ x ≤ nI (zk_nn st.1))) : zk_MT l yX1_log (ws_ yX1_log cX1_log 2 (some .int)) (zk_R 7 1 6) D g [.ref hn, .int x] w zk_IAE (fun w2 => zk_wB g hn (st) w2) := by
  obtain ⟨A, T, F, M, hF, hj, rfl⟩ := hB
  have hok0 := hok
  obtain ⟨o1, ⟨o2, o3⟩, ⟨o4, o5⟩, o6, o7, o8, o9, o10, o11, o12, o13⟩ := hok0
  have hn9 := zk_okn hok
  exact fr_0T (t1_log l hfl D g hn (A 0) (A 1) st.2.2.1 (A 2) (A 3) (A 4) (A 5) (A 6) (A 7) (A 10) (A 11) st.2.1 (gnr st.1 (zk_nn st.1) st.2.1) (kdn st.1 st.2.1) (A 8) (A 9) (zk_nn st.1) x h0_) (fun w1 hQ => by
    obtain rfl := hQ
    exact ⟨_, _, _, rfl, ⟨A, T, F, M, hF, hj, rfl⟩⟩)
set_option maxHeartbeats 4000000 in
theorem ct_times_a (l : Launch) (hfl : l.flags = flags0) (D : va_G) (g : G4) (hn : Nat) (st : zk_P) (w : va_W) (hB : zk_wB g hn st w) (hok : zk_okP st) (a b : Int32) (h0_ : ¬ (nI 0 ≤ a ∧ a ≤ nI (zk_nn st.1))) : zk_MT l yX1_times (ws_ yX1_times cX1_times 3 (some .int)) (zk_R 7 1 6) D g [.ref hn, .int a, .int b] w zk_IAE (fun w2 => zk_wB g hn (st) w2) := by
  obtain ⟨A, T, F, M, hF, hj, rfl⟩ := hB
  have hok0 := hok
  obtain ⟨o1, ⟨o2, o3⟩, ⟨o4, o5⟩, o6, o7, o8, o9, o10, o11, o12, o13⟩ := hok0
  have hn9 := zk_okn hok
  exact fr_0T (t1_times_a l hfl D g hn (A 0) (A 1) st.2.2.1 (A 2) (A 3) (A 4) (A 5) (A 6) (A 7) (A 10) (A 11) st.2.1 (gnr st.1 (zk_nn st.1) st.2.1) (kdn st.1 st.2.1) (A 8) (A 9) (zk_nn st.1) a b h0_) (fun w1 hQ => by
    obtain rfl := hQ
    exact ⟨_, _, _, rfl, ⟨A, T, F, M, hF, hj, rfl⟩⟩)
set_option maxHeartbeats 4000000 in
theorem ct_times_b (l : Launch) (hfl : l.flags = flags0) (D : va_G) (g : G4) (hn : Nat) (st : zk_P) (w : va_W) (hB : zk_wB g hn st w) (hok : zk_okP st) (a b : Int32) (ha_ : nI 0 ≤ a ∧ a ≤ nI (zk_nn st.1)) (h0_ : ¬ (nI 0 ≤ b ∧ b ≤ nI (zk_nn st.1))) : zk_MT l yX1_times (ws_ yX1_times cX1_times 3 (some .int)) (zk_R 7 1 6) D g [.ref hn, .int a, .int b] w zk_IAE (fun w2 => zk_wB g hn (st) w2) := by
  obtain ⟨A, T, F, M, hF, hj, rfl⟩ := hB
  have hok0 := hok
  obtain ⟨o1, ⟨o2, o3⟩, ⟨o4, o5⟩, o6, o7, o8, o9, o10, o11, o12, o13⟩ := hok0
  have hn9 := zk_okn hok
  exact fr_0T (t1_times_b l hfl D g hn (A 0) (A 1) st.2.2.1 (A 2) (A 3) (A 4) (A 5) (A 6) (A 7) (A 10) (A 11) st.2.1 (gnr st.1 (zk_nn st.1) st.2.1) (kdn st.1 st.2.1) (A 8) (A 9) (zk_nn st.1) a b ha_ h0_) (fun w1 hQ => by
    obtain rfl := hQ
    exact ⟨_, _, _, rfl, ⟨A, T, F, M, hF, hj, rfl⟩⟩)
set_option maxHeartbeats 4000000 in
theorem ct_put_i (l : Launch) (hfl : l.flags = flags0) (D : va_G) (g : G4) (hn : Nat) (st : zk_P) (w : va_W) (hB : zk_wB g hn st w) (hok : zk_okP st) (i b : Int32) (h0_ : ¬ (nI 0 ≤ i ∧ i ≤ nI (st.2.2.1 * kdn st.1 st.2.1 - 1))) : zk_MT l yX1_put (ws_ yX1_put cX1_put 4 none) (zk_R 7 1 6) D g [.ref hn, .int i, .int b] w zk_IOB (fun w2 => zk_wB g hn (st) w2) := by
  obtain ⟨A, T, F, M, hF, hj, rfl⟩ := hB
  have hok0 := hok
  obtain ⟨o1, ⟨o2, o3⟩, ⟨o4, o5⟩, o6, o7, o8, o9, o10, o11, o12, o13⟩ := hok0
  have hn9 := zk_okn hok
  exact fr_1T (t1_put_i l hfl D g hn (A 0) (A 1) st.2.2.1 (A 2) (A 3) (A 4) (A 5) (A 6) (A 7) (A 10) (A 11) st.2.1 (gnr st.1 (zk_nn st.1) st.2.1) (kdn st.1 st.2.1) i b (by have := Nat.mul_le_mul o4 (show 1 ≤ kdn st.1 st.2.1 by omega); omega) h0_) (fun w1 hQ => by
    obtain rfl := hQ
    exact ⟨_, _, rfl, ⟨A, T, F, M, hF, hj, rfl⟩⟩)
set_option maxHeartbeats 4000000 in
theorem ct_put_b (l : Launch) (hfl : l.flags = flags0) (D : va_G) (g : G4) (hn : Nat) (st : zk_P) (w : va_W) (hB : zk_wB g hn st w) (hok : zk_okP st) (i b : Int32) (hi_ : nI 0 ≤ i ∧ i ≤ nI (st.2.2.1 * kdn st.1 st.2.1 - 1)) (h0_ : ¬ (nI 0 ≤ b ∧ b ≤ nI 1)) : zk_MT l yX1_put (ws_ yX1_put cX1_put 4 none) (zk_R 7 1 6) D g [.ref hn, .int i, .int b] w zk_IAE (fun w2 => zk_wB g hn (st) w2) := by
  obtain ⟨A, T, F, M, hF, hj, rfl⟩ := hB
  have hok0 := hok
  obtain ⟨o1, ⟨o2, o3⟩, ⟨o4, o5⟩, o6, o7, o8, o9, o10, o11, o12, o13⟩ := hok0
  have hn9 := zk_okn hok
  exact fr_1T (t1_put_b l hfl D g hn (A 0) (A 1) st.2.2.1 (A 2) (A 3) (A 4) (A 5) (A 6) (A 7) (A 10) (A 11) st.2.1 (gnr st.1 (zk_nn st.1) st.2.1) (kdn st.1 st.2.1) i b (by have := Nat.mul_le_mul o4 (show 1 ≤ kdn st.1 st.2.1 by omega); omega) hi_ h0_) (fun w1 hQ => by
    obtain rfl := hQ
    exact ⟨_, _, rfl, ⟨A, T, F, M, hF, hj, rfl⟩⟩)
set_option maxHeartbeats 4000000 in
theorem ct_get (l : Launch) (hfl : l.flags = flags0) (D : va_G) (g : G4) (hn : Nat) (st : zk_P) (w : va_W) (hB : zk_wB g hn st w) (hok : zk_okP st) (i : Int32) (h0_ : ¬ (nI 0 ≤ i ∧ i ≤ nI (st.2.2.1 * kdn st.1 st.2.1 - 1))) : zk_MT l yX1_get (ws_ yX1_get cX1_get 2 (some .int)) (zk_R 7 1 6) D g [.ref hn, .int i] w zk_IOB (fun w2 => zk_wB g hn (st) w2) := by
  obtain ⟨A, T, F, M, hF, hj, rfl⟩ := hB
  have hok0 := hok
  obtain ⟨o1, ⟨o2, o3⟩, ⟨o4, o5⟩, o6, o7, o8, o9, o10, o11, o12, o13⟩ := hok0
  have hn9 := zk_okn hok
  exact fr_1T (t1_get l hfl D g hn (A 0) (A 1) st.2.2.1 (A 2) (A 3) (A 4) (A 5) (A 6) (A 7) (A 10) (A 11) st.2.1 (gnr st.1 (zk_nn st.1) st.2.1) (kdn st.1 st.2.1) i (by have := Nat.mul_le_mul o4 (show 1 ≤ kdn st.1 st.2.1 by omega); omega) h0_) (fun w1 hQ => by
    obtain rfl := hQ
    exact ⟨_, _, rfl, ⟨A, T, F, M, hF, hj, rfl⟩⟩)
set_option maxHeartbeats 4000000 in
theorem ct_bit (l : Launch) (hfl : l.flags = flags0) (D : va_G) (g : G4) (hn : Nat) (st : zk_P) (w : va_W) (hB : zk_wB g hn st w) (hok : zk_okP st) (i : Int32) (h0_ : ¬ (nI 0 ≤ i ∧ i ≤ nI (st.2.2.1 * zk_nn st.1 - 1))) : zk_MT l yX1_bit (ws_ yX1_bit cX1_bit 2 (some .int)) (zk_R 7 1 6) D g [.ref hn, .int i] w zk_IOB (fun w2 => zk_wB g hn (st) w2) := by
  obtain ⟨A, T, F, M, hF, hj, rfl⟩ := hB
  have hok0 := hok
  obtain ⟨o1, ⟨o2, o3⟩, ⟨o4, o5⟩, o6, o7, o8, o9, o10, o11, o12, o13⟩ := hok0
  have hn9 := zk_okn hok
  exact fr_0T (t1_bit l hfl D g hn (A 0) (A 1) st.2.2.1 (A 2) (A 3) (A 4) (A 5) (A 6) (A 7) (A 10) (A 11) st.2.1 (gnr st.1 (zk_nn st.1) st.2.1) (kdn st.1 st.2.1) (A 8) (A 9) (zk_nn st.1) i (by have := Nat.mul_le_mul o4 (show 1 ≤ zk_nn st.1 by omega); omega) h0_) (fun w1 hQ => by
    obtain rfl := hQ
    exact ⟨_, _, _, rfl, ⟨A, T, F, M, hF, hj, rfl⟩⟩)
set_option maxHeartbeats 4000000 in
theorem ct_burst_i (l : Launch) (hfl : l.flags = flags0) (D : va_G) (g : G4) (hn : Nat) (st : zk_P) (w : va_W) (hB : zk_wB g hn st w) (hok : zk_okP st) (i m : Int32) (h0_ : ¬ (nI 0 ≤ i ∧ i ≤ nI (st.2.2.1 * zk_nn st.1 - 1))) : zk_MT l yX1_burst (ws_ yX1_burst cX1_burst 5 none) (zk_R 7 1 6) D g [.ref hn, .int i, .int m] w zk_IOB (fun w2 => zk_wB g hn (st) w2) := by
  obtain ⟨A, T, F, M, hF, hj, rfl⟩ := hB
  have hok0 := hok
  obtain ⟨o1, ⟨o2, o3⟩, ⟨o4, o5⟩, o6, o7, o8, o9, o10, o11, o12, o13⟩ := hok0
  have hn9 := zk_okn hok
  exact fr_0T (t1_burst_i l hfl D g hn (A 0) (A 1) st.2.2.1 (A 2) (A 3) (A 4) (A 5) (A 6) (A 7) (A 10) (A 11) st.2.1 (gnr st.1 (zk_nn st.1) st.2.1) (kdn st.1 st.2.1) (A 8) (A 9) (zk_nn st.1) i m (by have := Nat.mul_le_mul o4 (show 1 ≤ zk_nn st.1 by omega); omega) h0_) (fun w1 hQ => by
    obtain rfl := hQ
    exact ⟨_, _, _, rfl, ⟨A, T, F, M, hF, hj, rfl⟩⟩)
set_option maxHeartbeats 4000000 in
theorem ct_burst_m (l : Launch) (hfl : l.flags = flags0) (D : va_G) (g : G4) (hn : Nat) (st : zk_P) (w : va_W) (hB : zk_wB g hn st w) (hok : zk_okP st) (i m : Int32) (hi_ : nI 0 ≤ i ∧ i ≤ nI (st.2.2.1 * zk_nn st.1 - 1)) (hm_ : nI (st.2.2.1 * zk_nn st.1) - i < m) : zk_MT l yX1_burst (ws_ yX1_burst cX1_burst 5 none) (zk_R 7 1 6) D g [.ref hn, .int i, .int m] w zk_IOB (fun w2 => zk_wB g hn (st) w2) := by
  obtain ⟨A, T, F, M, hF, hj, rfl⟩ := hB
  have hok0 := hok
  obtain ⟨o1, ⟨o2, o3⟩, ⟨o4, o5⟩, o6, o7, o8, o9, o10, o11, o12, o13⟩ := hok0
  have hn9 := zk_okn hok
  exact fr_0T (t1_burst_m l hfl D g hn (A 0) (A 1) st.2.2.1 (A 2) (A 3) (A 4) (A 5) (A 6) (A 7) (A 10) (A 11) st.2.1 (gnr st.1 (zk_nn st.1) st.2.1) (kdn st.1 st.2.1) (A 8) (A 9) (zk_nn st.1) i m (by have := Nat.mul_le_mul o4 (show 1 ≤ zk_nn st.1 by omega); omega) hi_ hm_) (fun w1 hQ => by
    obtain rfl := hQ
    exact ⟨_, _, _, rfl, ⟨A, T, F, M, hF, hj, rfl⟩⟩)
set_option maxHeartbeats 4000000 in
theorem ct_burst_n (l : Launch) (hfl : l.flags = flags0) (D : va_G) (g : G4) (hn : Nat) (st : zk_P) (w : va_W) (hB : zk_wB g hn st w) (hok : zk_okP st) (i m : Int32) (hi_ : nI 0 ≤ i ∧ i ≤ nI (st.2.2.1 * zk_nn st.1 - 1)) (hm_ : ¬ nI (st.2.2.1 * zk_nn st.1) - i < m) (h0_ : ¬ (nI 1 ≤ m ∧ m ≤ nI 124)) : zk_MT l yX1_burst (ws_ yX1_burst cX1_burst 5 none) (zk_R 7 1 6) D g [.ref hn, .int i, .int m] w zk_IAE (fun w2 => zk_wB g hn (st) w2) := by
  obtain ⟨A, T, F, M, hF, hj, rfl⟩ := hB
  have hok0 := hok
  obtain ⟨o1, ⟨o2, o3⟩, ⟨o4, o5⟩, o6, o7, o8, o9, o10, o11, o12, o13⟩ := hok0
  have hn9 := zk_okn hok
  exact fr_0T (t1_burst_n l hfl D g hn (A 0) (A 1) st.2.2.1 (A 2) (A 3) (A 4) (A 5) (A 6) (A 7) (A 10) (A 11) st.2.1 (gnr st.1 (zk_nn st.1) st.2.1) (kdn st.1 st.2.1) (A 8) (A 9) (zk_nn st.1) i m (by have := Nat.mul_le_mul o4 (show 1 ≤ zk_nn st.1 by omega); omega) hi_ hm_ h0_) (fun w1 hQ => by
    obtain rfl := hQ
    exact ⟨_, _, _, rfl, ⟨A, T, F, M, hF, hj, rfl⟩⟩)
set_option maxHeartbeats 4000000 in
theorem ct_noise (l : Launch) (hfl : l.flags = flags0) (D : va_G) (g : G4) (hn : Nat) (st : zk_P) (w : va_W) (hB : zk_wB g hn st w) (hok : zk_okP st) (seed rate : Int32) (h0_ : ¬ (nI 0 ≤ rate ∧ rate ≤ nI 1000)) : zk_MT l yX1_noise (ws_ yX1_noise cX1_noise 6 (some .int)) (zk_R 7 1 6) D g [.ref hn, .int seed, .int rate] w zk_IAE (fun w2 => zk_wB g hn (st) w2) := by
  obtain ⟨A, T, F, M, hF, hj, rfl⟩ := hB
  have hok0 := hok
  obtain ⟨o1, ⟨o2, o3⟩, ⟨o4, o5⟩, o6, o7, o8, o9, o10, o11, o12, o13⟩ := hok0
  have hn9 := zk_okn hok
  exact fr_11T (t1_noise l hfl D g hn (A 0) (A 1) st.2.2.1 (A 2) (A 3) (A 4) (A 5) (A 6) seed rate h0_) (fun w1 hQ => by
    obtain rfl := hQ
    exact ⟨_, rfl, ⟨A, T, F, M, hF, hj, rfl⟩⟩)
set_option maxHeartbeats 4000000 in
theorem ct_synd_w (l : Launch) (hfl : l.flags = flags0) (D : va_G) (g : G4) (hn : Nat) (st : zk_P) (w : va_W) (hB : zk_wB g hn st w) (hok : zk_okP st) (v j : Int32) (h0_ : ¬ (nI 0 ≤ v ∧ v ≤ nI (st.2.2.1 - 1))) : zk_MT l yX1_syndrome (ws_ yX1_syndrome cX1_syndrome 3 (some .int)) (zk_R 7 1 6) D g [.ref hn, .int v, .int j] w zk_IOB (fun w2 => zk_wB g hn (st) w2) := by
  obtain ⟨A, T, F, M, hF, hj, rfl⟩ := hB
  have hok0 := hok
  obtain ⟨o1, ⟨o2, o3⟩, ⟨o4, o5⟩, o6, o7, o8, o9, o10, o11, o12, o13⟩ := hok0
  have hn9 := zk_okn hok
  exact fr_1T (t1_synd_w l hfl D g hn (A 0) (A 1) st.2.2.1 (A 2) (A 3) (A 4) (A 5) (A 6) (A 7) (A 10) (A 11) st.2.1 (gnr st.1 (zk_nn st.1) st.2.1) (kdn st.1 st.2.1) v j o4 h0_) (fun w1 hQ => by
    obtain rfl := hQ
    exact ⟨_, _, rfl, ⟨A, T, F, M, hF, hj, rfl⟩⟩)
set_option maxHeartbeats 4000000 in
theorem ct_synd_j (l : Launch) (hfl : l.flags = flags0) (D : va_G) (g : G4) (hn : Nat) (st : zk_P) (w : va_W) (hB : zk_wB g hn st w) (hok : zk_okP st) (v j : Int32) (hw_ : nI 0 ≤ v ∧ v ≤ nI (st.2.2.1 - 1)) (h0_ : ¬ (nI 1 ≤ j ∧ j ≤ nI (2 * st.2.1))) : zk_MT l yX1_syndrome (ws_ yX1_syndrome cX1_syndrome 3 (some .int)) (zk_R 7 1 6) D g [.ref hn, .int v, .int j] w zk_IOB (fun w2 => zk_wB g hn (st) w2) := by
  obtain ⟨A, T, F, M, hF, hj, rfl⟩ := hB
  have hok0 := hok
  obtain ⟨o1, ⟨o2, o3⟩, ⟨o4, o5⟩, o6, o7, o8, o9, o10, o11, o12, o13⟩ := hok0
  have hn9 := zk_okn hok
  exact fr_1T (t1_synd_j l hfl D g hn (A 0) (A 1) st.2.2.1 (A 2) (A 3) (A 4) (A 5) (A 6) (A 7) (A 10) (A 11) st.2.1 (gnr st.1 (zk_nn st.1) st.2.1) (kdn st.1 st.2.1) v j o4 hw_ h0_) (fun w1 hQ => by
    obtain rfl := hQ
    exact ⟨_, _, rfl, ⟨A, T, F, M, hF, hj, rfl⟩⟩)
set_option maxHeartbeats 4000000 in
theorem ct_dec (l : Launch) (hfl : l.flags = flags0) (D : va_G) (g : G4) (hn : Nat) (st : zk_P) (w : va_W) (hB : zk_wB g hn st w) (hok : zk_okP st) (x : Int32) (h0_ : ¬ (nI 0 ≤ x ∧ x ≤ nI 2)) : zk_MT l yX1_decode (ws_ yX1_decode cX1_decode 2 (some .int)) (zk_R 7 1 6) D g [.ref hn, .int x] w zk_IAE (fun w2 => zk_wB g hn (st) w2) := by
  obtain ⟨A, T, F, M, hF, hj, rfl⟩ := hB
  have hok0 := hok
  obtain ⟨o1, ⟨o2, o3⟩, ⟨o4, o5⟩, o6, o7, o8, o9, o10, o11, o12, o13⟩ := hok0
  have hn9 := zk_okn hok
  exact fr_11T (t1_dec l hfl D g hn (A 0) (A 1) st.2.2.1 (A 2) (A 3) (A 4) (A 5) (A 6) x h0_) (fun w1 hQ => by
    obtain rfl := hQ
    exact ⟨_, rfl, ⟨A, T, F, M, hF, hj, rfl⟩⟩)
set_option maxHeartbeats 4000000 in
theorem ct_load (l : Launch) (hfl : l.flags = flags0) (D : va_G) (g : G4) (hn : Nat) (st : zk_P) (w : va_W) (hB : zk_wB g hn st w) (hok : zk_okP st) (x : Int32) (h0_ : ¬ (nI 0 ≤ x ∧ x ≤ nI 3)) : zk_MT l yX1_load (ws_ yX1_load cX1_load 3 (some .int)) (zk_R 7 1 6) D g [.ref hn, .int x] w zk_IOB (fun w2 => zk_wB g hn (st) w2) := by
  obtain ⟨A, T, F, M, hF, hj, rfl⟩ := hB
  have hok0 := hok
  obtain ⟨o1, ⟨o2, o3⟩, ⟨o4, o5⟩, o6, o7, o8, o9, o10, o11, o12, o13⟩ := hok0
  have hn9 := zk_okn hok
  exact fr_11T (t1_load l hfl D g hn (A 0) (A 1) st.2.2.1 (A 2) (A 3) (A 4) (A 5) (A 6) x h0_) (fun w1 hQ => by
    obtain rfl := hQ
    exact ⟨_, rfl, ⟨A, T, F, M, hF, hj, rfl⟩⟩)
set_option maxHeartbeats 4000000 in
theorem ct_save (l : Launch) (hfl : l.flags = flags0) (D : va_G) (g : G4) (hn : Nat) (st : zk_P) (w : va_W) (hB : zk_wB g hn st w) (hok : zk_okP st) (x : Int32) (h0_ : ¬ (nI 0 ≤ x ∧ x ≤ nI 3)) : zk_MT l yX1_save (ws_ yX1_save cX1_save 2 none) (zk_R 7 1 6) D g [.ref hn, .int x] w zk_IOB (fun w2 => zk_wB g hn (st) w2) := by
  obtain ⟨A, T, F, M, hF, hj, rfl⟩ := hB
  have hok0 := hok
  obtain ⟨o1, ⟨o2, o3⟩, ⟨o4, o5⟩, o6, o7, o8, o9, o10, o11, o12, o13⟩ := hok0
  have hn9 := zk_okn hok
  exact fr_11T (t1_save l hfl D g hn (A 0) (A 1) st.2.2.1 (A 2) (A 3) (A 4) (A 5) (A 6) x h0_) (fun w1 hQ => by
    obtain rfl := hQ
    exact ⟨_, rfl, ⟨A, T, F, M, hF, hj, rfl⟩⟩)
