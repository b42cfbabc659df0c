/-! ===== the law's body ===== -/
set_option maxRecDepth 100000
section
variable {p : Program} {l : Launch} {e : Env} {s : State} {m : MethodId} {args : Array Value} {below : List Frame} {meth : Method} {c : Code} {Q : State → Prop} {D : va_G} {g : G4} {A : Nat → Prop} {b L : Nat} {xs : Nat → Int32}
set_option maxHeartbeats 4000000 in
/-- the law's body, up to its end -/
theorem zk_body (C : zk_C p s m c args cL_law 7 "NoisyCodesLaw" D g A) (NC : zk_NC s) (hfl : l.flags = flags0) (hX : va_X b L xs s s.heap) (hbl : b < s.heap.size) (hbA : ¬ A b) (hL : L ≤ 256)
    (kE : ∀ (H : Heap) (locs : List Loc) (ls : Array Slot) (cells slots : Nat), va_S A s.heap H locs → cells ≤ 870703 → slots ≤ 6404122 → W p l e room_1 s m args below meth c H locs cells slots Q (F0 m 1006 ls [])) {ls : Array Slot} (hl : lv_has ls 7 [(0, .ref b)]) : W p l e room_1 s m args below meth c s.heap [] 0 0 Q (F0 m 0 ls []) := by
  have hx := C.1.1
  have hb := C.1.2.1
  have Z : zk_Z D A s s.heap [] [] := ⟨fun k q h => by simp at h, ⟨fun i j p q h => by simp at h, fun k q h => by simp at h⟩, va_S.rf⟩
  refine zk_new C Z in_X1 tyX1 tyX1_ok q38 q39 q19 (ci := 0) rfl (fs := [.null, .null, .int (nI 0), .int (nI 0), .null, .null, .null, .null, .null]) (fun j hj => by rcases (show j = 0 ∨ j = 1 ∨ j = 2 ∨ j = 3 ∨ j = 4 ∨ j = 5 ∨ j = 6 ∨ j = 7 ∨ j = 8 by omega) with rfl | rfl | rfl | rfl | rfl | rfl | rfl | rfl | rfl <;> rfl) (Nat.le_of_ble_eq_true rfl) (Nat.le_of_ble_eq_true rfl) dL_law_0 (fun q1 H Z => ?_)
  have Z : zk_Z D A s H [] [(q1, .inr (0, [.null, .null, .int (nI 0), .int (nI 0), .null, .null, .null, .null, .null]))] := Z
  refine lv_dup hx hb dL_law_3 rfl ?_
  refine zk_callI (cells' := 43) (slots' := 358) (rest := [.ref q1]) (n := 0) (wr := []) C Z (m1_init l D g q1) [0] [] rfl rfl (by decide) (by decide) (by decide) rfl q40 q41 q19 q42 (by decide +kernel) rfl (Nat.le_of_ble_eq_true rfl) (Nat.le_of_ble_eq_true rfl) (Nat.le_of_ble_eq_true rfl) (Nat.le_of_ble_eq_true rfl) rfl rfl hl.1 rfl (Nat.le_of_ble_eq_true rfl) dL_law_4 (fun v w1 H locs hq Z => ?_)
  obtain ⟨rfl, r1, r2, r3, r4, r5, r6, r7, r8, r9, r10, r11, r12, r13, r14, r15, r16, r17, r18, r19, r20, r21, r22, r23, r24, r25, r26, r27, r28, r29, r30, r31, r32, r33, r34, r35, r36, r37, r38, r39, r40, r41, r42, e1⟩ := hq
  have hN : zk_wN g q1 none w1 := by rw [e1]; exact zk_w_start g q1 r1 r2 r3 r4 r5 r6 r7 r8 r9 r10 r11 r12 r13 r14 r15 r16 r17 r18 r19 r20 r21 r22 r23 r24 r25 r26 r27 r28 r29 r30 r31 r32 r33 r34 r35 r36 r37 r38 r39 r40 r41 r42
  have Z : zk_Z D A s H locs w1 := Z
  clear e1
  refine W.eq (g2 := F0 m 7 ls [.ref q1]) rfl ?_
  refine lv_astore_n (lv' := [(1, .ref q1), (0, .ref b)]) hx hb dL_law_7 rfl hl (by decide) rfl (fun ls hl => ?_)
  refine zk_new C Z in_X8 tyX8 tyX8_ok q591 q592 q26 (ci := 7) rfl (fs := [.int (nI 0), .int (nI 0), .int (nI 0), .int (nI 0), .int (nI 0), .int (nI 0), .int (nI 0), .int (nI 0), .int (nI 0), .null, .null, .null, .null, .null, .null]) (fun j hj => by rcases (show j = 0 ∨ j = 1 ∨ j = 2 ∨ j = 3 ∨ j = 4 ∨ j = 5 ∨ j = 6 ∨ j = 7 ∨ j = 8 ∨ j = 9 ∨ j = 10 ∨ j = 11 ∨ j = 12 ∨ j = 13 ∨ j = 14 by omega) with rfl | rfl | rfl | rfl | rfl | rfl | rfl | rfl | rfl | rfl | rfl | rfl | rfl | rfl | rfl <;> rfl) (Nat.le_of_ble_eq_true rfl) (Nat.le_of_ble_eq_true rfl) dL_law_8 (fun q2 H Z => ?_)
  refine lv_dup hx hb dL_law_11 rfl ?_
  refine zk_callI (cells' := 50) (slots' := 464) (rest := [.ref q2]) (n := 0) (wr := w1) C Z (m8_init l D g q2) (zk_iC w1 [(q2, .inr (7, [.int (nI 0), .int (nI 0), .int (nI 0), .int (nI 0), .int (nI 0), .int (nI 0), .int (nI 0), .int (nI 0), .int (nI 0), .null, .null, .null, .null, .null, .null]))]) (zk_iR w1) (zk_ixC w1 _) (zk_ixR w1 _) (zk_nd_range _ _) (zk_nd_range _ _) (zk_ixD w1 _) rfl q593 q594 q26 q595 (by decide +kernel) rfl (Nat.le_of_ble_eq_true rfl) (Nat.le_of_ble_eq_true rfl) (Nat.le_of_ble_eq_true rfl) (Nat.le_of_ble_eq_true rfl) rfl rfl hl.1 rfl (Nat.le_of_ble_eq_true rfl) dL_law_12 (fun v w2 H locs hq Z => ?_)
  obtain ⟨rfl, s1, s2, s3, s4, s5, s6, e2⟩ := hq
  have hM : zk_wM g q2 none 0 w2 := by
    rw [e2]
    exact ⟨fun i => [s1, s2, s3, s4, s5, s6].getD i 0, List.replicate 4 0, List.replicate 4 0, List.replicate 16 0, List.replicate 4 0, List.replicate 31 0, List.replicate 32 0, ⟨rfl, rfl, rfl, rfl, rfl, rfl⟩, rfl⟩
  clear e2
  refine W.eq (g2 := F0 m 15 ls [.ref q2]) rfl ?_
  refine lv_astore_n (lv' := [(2, .ref q2), (1, .ref q1), (0, .ref b)]) hx hb dL_law_15 rfl hl (by decide) rfl (fun ls hl => ?_)
  refine lv_iconst (v := nI 1) hx hb dL_law_16 (by decide) ?_
  refine zk_newl C Z (N := 1) (by decide) (Nat.le_of_ble_eq_true rfl) (Nat.le_of_ble_eq_true rfl) dL_law_17 (fun q3 H Z => ?_)
  have Z : zk_Z D A s H locs ((zk_oc1 g q3 (fun _ => 0) :: w1) ++ w2) := Z.swap
  have Z := Z.swap
  refine lv_astore_n (lv' := [(3, .ref q3), (2, .ref q2), (1, .ref q1), (0, .ref b)]) hx hb dL_law_19 rfl hl (by decide) rfl (fun ls hl => ?_)
  refine lv_iconst (v := nI 0) hx hb dL_law_20 (by decide) ?_
  refine lv_istore (lv' := [(4, .int (nI 0)), (3, .ref q3), (2, .ref q2), (1, .ref q1), (0, .ref b)]) hx hb dL_law_21 hl (by decide) rfl (fun ls hl => ?_)
  exact zk_loop C NC hfl hX hbl hbA hL (Nat.le_of_ble_eq_true rfl) (Nat.le_of_ble_eq_true rfl) (C0 := 870703) (S0 := 6404122) (Nat.le_refl _) (Nat.le_refl _) kE 65 0 0 _ none w1 w2 H locs ls _ _ (by omega) (by omega) (Nat.le_of_ble_eq_true rfl) (Nat.le_of_ble_eq_true rfl) zk_okO.n hN hM Z hl
end
