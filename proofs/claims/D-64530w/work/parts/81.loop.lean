/-! ===== the law's loop ===== -/
set_option maxRecDepth 100000
theorem zk_of (v : Int32) : v = nI v.toBitVec.toNat := by
  apply zk_inj
  rw [zk_tn, Nat.mod_eq_of_lt v.toBitVec.isLt]
theorem zk_and15 (v : Int32) : ∃ j, j < 16 ∧ v &&& nI 15 = nI j := by
  refine ⟨v.toBitVec.toNat &&& 15, Nat.lt_of_le_of_lt Nat.and_le_right (by decide), ?_⟩
  rw [← zk_and, ← zk_of v]
theorem zk_head {L i : Nat} (hL : L ≤ 256) (hi : i ≤ 300) : nI L - nI 4 < nI i ↔ L < i + 4 := by
  rw [Int32.lt_iff_toInt_lt, pk_sub_toInt (by omega) (by omega), nI_toInt (by omega)]
  omega
section
variable {p : Program} {l : Launch} {e : Env} {R : Room} {s : State} {m : MethodId} {args : Array Value} {below : List Frame} {meth : Method} {c : Code} {Q : State → Prop} {D : va_G} {g : G4} {A : Nat → Prop} {b L : Nat} {xs : Nat → Int32}
set_option maxHeartbeats 4000000 in
theorem zk_loop (C : zk_C p s m c args cL_law 7 "NoisyCodesLaw" D g A) (NC : zk_NC s) (hfl : l.flags = flags0) (hX : va_X b L xs s s.heap) (hbl : b < s.heap.size) (hbA : ¬ A b) (hL : L ≤ 256) (hfr : 20 ≤ R.frames) (hlo : 1000 ≤ R.locals) {hn hm ho C0 S0 : Nat} (hC0 : C0 ≤ R.cells) (hS0 : S0 ≤ R.slots)
    (kE : ∀ (H : Heap) (locs : List Loc) (ls : Array Slot) (cells slots : Nat), va_S A s.heap H locs → cells ≤ C0 → slots ≤ S0 → W p l e R s m args below meth c H locs cells slots Q (F0 m 1006 ls [])) :
    ∀ (n i km : Nat) (f : Nat → Int64) (st : Option zk_P) (wn wm : va_W) (H : Heap) (locs : List Loc) (ls : Array Slot) (cells slots : Nat), L < i + 4 * n + 4 → i ≤ L → cells + n ≤ C0 → slots + 6 * n ≤ S0 → zk_okO st → zk_wN g hn st wn → zk_wM g hm st km wm → zk_Z D A s H locs (wm ++ (zk_oc1 g ho f :: wn)) → lv_has ls 7 [(4, .int (nI i)), (3, .ref ho), (2, .ref hm), (1, .ref hn), (0, .ref b)] → W p l e R s m args below meth c H locs cells slots Q (F0 m 23 ls []) := by
  have hx := C.1.1
  have hb := C.1.2.1
  intro n
  induction n with
  | zero =>
    intro i km f st wn wm H locs ls cells slots h1 h2 h3 h4 hok hN hM Z hl
    refine lv_iload hx hb dL_law_23 (lv_at hl 0 rfl) ?_
    refine lv_aload_n hx hb dL_law_25 rfl (lv_at hl 4 rfl) ?_
    refine va_slen hx hb hX hbl hbA Z.2.2 dL_law_26 ?_
    refine lv_iconst (v := nI 4) hx hb dL_law_27 (by decide) ?_
    refine lv_isub hx hb dL_law_28 ?_
    refine lv_icmp_gt (tgt := 1006) hx hb dL_law_29 (by decide) (fun _ => ?_) (fun h => absurd ((zk_head hL (by omega)).mpr (by omega)) h)
    exact kE H locs ls cells slots Z.2.2 (by omega) (by omega)
  | succ n ih =>
    intro i km f st wn wm H locs ls cells slots h1 h2 h3 h4 hok hN hM Z hl
    refine lv_iload hx hb dL_law_23 (lv_at hl 0 rfl) ?_
    refine lv_aload_n hx hb dL_law_25 rfl (lv_at hl 4 rfl) ?_
    refine va_slen hx hb hX hbl hbA Z.2.2 dL_law_26 ?_
    refine lv_iconst (v := nI 4) hx hb dL_law_27 (by decide) ?_
    refine lv_isub hx hb dL_law_28 ?_
    refine lv_icmp_gt (tgt := 1006) hx hb dL_law_29 (by decide) (fun _ => kE H locs ls cells slots Z.2.2 (by omega) (by omega)) (fun h => ?_)
    have hi : i + 4 ≤ L := Nat.not_lt.mp (fun z => h ((zk_head hL (by omega)).mpr z))
    refine lv_aload_n hx hb dL_law_32 rfl (lv_at hl 4 rfl) ?_
    refine lv_iload hx hb dL_law_33 (lv_at hl 0 rfl) ?_
    refine va_sld hx hb hX hbl hbA Z.2.2 (vp_in_nI (by omega) (by omega)) dL_law_35 ?_
    refine lv_bipush (v := nI 15) hx hb dL_law_36 (by decide) ?_
    refine lv_iand hx hb dL_law_38 ?_
    obtain ⟨j, hj, ej⟩ := zk_and15 (xs (nI i).toNatClampNeg)
    rw [ej]
    have kk : zk_K p l e R s m args below meth c Q D g A b hn hm ho i (cells + 1) (slots + 6) := by
      intro st1 km1 f1 wn1 wm1 H1 locs1 ls1 hok1 hN1 hM1 Z1 hl1
      refine nr_iinc (n := 4) (k := 0) (lv' := [(4, .int (nI (i + 4))), (3, .ref ho), (2, .ref hm), (1, .ref hn), (0, .ref b)]) hx hb (by decide) dL_law_1000 hl1 rfl (by decide) rfl (fun ls2 hl2 => ?_)
      refine lv_goto (tgt := 23) hx hb dL_law_1003 (by decide) ?_
      exact ih (i + 4) km1 f1 st1 wn1 wm1 H1 locs1 ls2 (cells + 1) (slots + 6) (by omega) (by omega) (by omega) (by omega) hok1 hN1 hM1 Z1 hl2
    have hce : cells + 1 ≤ R.cells := by omega
    have hsl : slots + 6 ≤ R.slots := by omega
    rcases (show j = 0 ∨ j = 1 ∨ j = 2 ∨ j = 3 ∨ j = 4 ∨ j = 5 ∨ j = 6 ∨ j = 7 ∨ j = 8 ∨ j = 9 ∨ j = 10 ∨ j = 11 ∨ j = 12 ∨ j = 13 ∨ j = 14 ∨ j = 15 by omega) with rfl | rfl | rfl | rfl | rfl | rfl | rfl | rfl | rfl | rfl | rfl | rfl | rfl | rfl | rfl | rfl
    · refine lv_tableIn (tgt := 116) (off := 77) hx hb dL_law_39 (by decide) (by decide) rfl (by decide) ?_
      exact lc_begin C NC hfl hX hbl hbA hL hfr hlo hi hN hM hok Z hl hce hsl kk
    · refine lv_tableIn (tgt := 196) (off := 157) hx hb dL_law_39 (by decide) (by decide) rfl (by decide) ?_
      exact lc_length C NC hfl hX hbl hbA hL hfr hlo hi hN hM hok Z hl hce hsl kk
    · refine lv_tableIn (tgt := 240) (off := 201) hx hb dL_law_39 (by decide) (by decide) rfl (by decide) ?_
      exact lc_generator C NC hfl hX hbl hbA hL hfr hlo hi hN hM hok Z hl hce hsl kk
    · refine lv_tableIn (tgt := 284) (off := 245) hx hb dL_law_39 (by decide) (by decide) rfl (by decide) ?_
      exact lc_power C NC hfl hX hbl hbA hL hfr hlo hi hN hM hok Z hl hce hsl kk
    · refine lv_tableIn (tgt := 340) (off := 301) hx hb dL_law_39 (by decide) (by decide) rfl (by decide) ?_
      exact lc_log C NC hfl hX hbl hbA hL hfr hlo hi hN hM hok Z hl hce hsl kk
    · refine lv_tableIn (tgt := 396) (off := 357) hx hb dL_law_39 (by decide) (by decide) rfl (by decide) ?_
      exact lc_times C NC hfl hX hbl hbA hL hfr hlo hi hN hM hok Z hl hce hsl kk
    · refine lv_tableIn (tgt := 464) (off := 425) hx hb dL_law_39 (by decide) (by decide) rfl (by decide) ?_
      exact lc_put C NC hfl hX hbl hbA hL hfr hlo hi hN hM hok Z hl hce hsl kk
    · refine lv_tableIn (tgt := 512) (off := 473) hx hb dL_law_39 (by decide) (by decide) rfl (by decide) ?_
      exact lc_get C NC hfl hX hbl hbA hL hfr hlo hi hN hM hok Z hl hce hsl kk
    · refine lv_tableIn (tgt := 568) (off := 529) hx hb dL_law_39 (by decide) (by decide) rfl (by decide) ?_
      exact lc_encode C NC hfl hX hbl hbA hL hfr hlo hi hN hM hok Z hl hce hsl kk
    · refine lv_tableIn (tgt := 612) (off := 573) hx hb dL_law_39 (by decide) (by decide) rfl (by decide) ?_
      exact lc_bit C NC hfl hX hbl hbA hL hfr hlo hi hN hM hok Z hl hce hsl kk
    · refine lv_tableIn (tgt := 668) (off := 629) hx hb dL_law_39 (by decide) (by decide) rfl (by decide) ?_
      exact lc_burst C NC hfl hX hbl hbA hL hfr hlo hi hN hM hok Z hl hce hsl kk
    · refine lv_tableIn (tgt := 716) (off := 677) hx hb dL_law_39 (by decide) (by decide) rfl (by decide) ?_
      exact lc_noise C NC hfl hX hbl hbA hL hfr hlo hi hN hM hok Z hl hce hsl kk
    · refine lv_tableIn (tgt := 784) (off := 745) hx hb dL_law_39 (by decide) (by decide) rfl (by decide) ?_
      exact lc_syndrome C NC hfl hX hbl hbA hL hfr hlo hi hN hM hok Z hl hce hsl kk
    · refine lv_tableIn (tgt := 852) (off := 813) hx hb dL_law_39 (by decide) (by decide) rfl (by decide) ?_
      exact lc_decode C NC hfl hX hbl hbA hL hfr hlo hi hN hM hok Z hl hce hsl kk
    · refine lv_tableIn (tgt := 908) (off := 869) hx hb dL_law_39 (by decide) (by decide) rfl (by decide) ?_
      exact lc_save C NC hfl hX hbl hbA hL hfr hlo hi hN hM hok Z hl hce hsl kk
    · refine lv_tableIn (tgt := 944) (off := 905) hx hb dL_law_39 (by decide) (by decide) rfl (by decide) ?_
      exact lc_load C NC hfl hX hbl hbA hL hfr hlo hi hN hM hok Z hl hce hsl kk
end
