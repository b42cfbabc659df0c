/-! ===== what the law's body stands on ===== -/
set_option maxRecDepth 100000
theorem zk_strR {own tx : String} {k : Nat} {B : Array Value} {U : State} (h1 : (Cond.stringRef own k tx).before B U = true) : ∃ a, vk_R own k tx a U := by
  have h := h1
  simp only [Cond.before, Cond.holds, Cond.value, State.resolvedAt?] at h
  cases hc : U.vm.findClass own with
  | none => simp [hc] at h
  | some cl =>
    cases hk : U.vm.classes[cl]? with
    | none => simp [hc, hk] at h
    | some kc =>
      cases hr : (kc.resolved[k]?).join with
      | none => simp [hc, hk, hr] at h
      | some r =>
        cases r with
        | string a => exact ⟨a, vk_R.of h1 (by simp [Term.eval, hc, hk, hr])⟩
        | _ => simp [hc, hk, hr] at h
theorem zk_nc_of {C T : String} {B : Array Value} {U : State} (h : (Cond.not (Cond.castable C T)).before B U = true) : ∃ c t, U.vm.findClass C = some c ∧ U.vm.findClass T = some t ∧ U.vm.assignable c t = false := by
  simp only [Cond.before, Cond.holds, Cond.value] at h
  cases hc : U.vm.findClass C with
  | none => simp [hc] at h
  | some c =>
    cases ht : U.vm.findClass T with
    | none => simp [hc, ht] at h
    | some t => exact ⟨c, t, rfl, rfl, by simpa [hc, ht] using h⟩
theorem zk_nc_in : ∀ q ∈ zk_ncs, Cond.not (Cond.castable q.1 q.2) ∈ flatC (Jvm.Cond.and given_1 narrow_1) := by decide +kernel
set_option maxHeartbeats 4000000 in
theorem zk_ctx {p : Program} {s : State} {m : MethodId} {c : Code} {b : Nat} (hx : p.tables.exec = Jvm.exec) (hb : c.code = code) (hml : c.maxLocals = 7) (hown : s.vm.findClass "NoisyCodesLaw" = some m.cls) (hts : ∀ w ∈ lw_tbl, w.before #[Value.ref b] s = true) (hgv : (Jvm.Cond.and given_1 narrow_1).before #[Value.ref b] s = true) :
    ∃ (D : va_G) (g : G4), zk_C p s m c #[Value.ref b] cL_law 7 "NoisyCodesLaw" D g (fun q => s.heap.size ≤ q) ∧ zk_NC s := by
  have hta : ∀ w ∈ lw_all, w.before #[Value.ref b] s = true := fun w h => hts w (lw_all_tbl h)
  have hs := flat_of_before _ hgv
  obtain ⟨c0, i0, k0⟩ := u_known (C := RX1) (T := TX1) (N := 9) (n := 9) hta in_X1 (hta _ q39)
  obtain ⟨c1, i1, k1⟩ := u_known (C := RX2) (T := TX2) (N := 6) (n := 6) hta in_X2 (hta _ q47)
  obtain ⟨c2, i2, k2⟩ := u_known (C := RX3) (T := TX3) (N := 3) (n := 3) hta in_X3 (hta _ q53)
  obtain ⟨c3, i3, k3⟩ := u_known (C := RX4) (T := TX4) (N := 1) (n := 1) hta in_X4 (hta _ q78)
  obtain ⟨c4, i4, k4⟩ := u_known (C := RX5) (T := TX5) (N := 1) (n := 1) hta in_X5 (hta _ q119)
  obtain ⟨c5, i5, k5⟩ := u_known (C := RX6) (T := TX6) (N := 4) (n := 4) hta in_X6 (hta _ q130)
  obtain ⟨c6, i6, k6⟩ := u_known (C := RX7) (T := TX7) (N := 2) (n := 2) hta in_X7 (hta _ q151)
  obtain ⟨c7, i7, k7⟩ := u_known (C := RX8) (T := TX8) (N := 15) (n := 15) hta in_X8 (hta _ q592)
  obtain ⟨a1, ka1, cp1, a11, a12, a13⟩ := Cond.arrayClass_spec (hta _ q76)
  obtain ⟨a2, ka2, cp2, a21, a22, a23⟩ := Cond.arrayClass_spec (hta _ q764)
  obtain ⟨cp3, a3, ka3, a31, -, a32, a33, a34⟩ := arrayOverA_spec (hts _ q115)
  obtain ⟨cp4, a4, ka4, a41, -, a42, a43, a44⟩ := Cond.arrayOver_spec (hts _ q117)
  have hA : ∀ a : Nat, a < s.heap.size → ¬ (fun q => s.heap.size ≤ q) a := fun a h => Nat.not_le.mpr h
  refine ⟨(fun k => [c0, c1, c2, c3, c4, c5, c6, c7].getD k c0, fun k => [i0, i1, i2, i3, i4, i5, i6, i7].getD k i0), (a1, a2, a3, a4), ⟨⟨hx, hb, hml, hown, hta⟩, ⟨?_, ?_⟩, fun _ h => h, ?_⟩, ?_⟩
  · intro k q hq
    have hk : k < 8 := (List.getElem?_eq_some_iff.mp hq).1
    rcases (show k = 0 ∨ k = 1 ∨ k = 2 ∨ k = 3 ∨ k = 4 ∨ k = 5 ∨ k = 6 ∨ k = 7 by omega) with rfl | rfl | rfl | rfl | rfl | rfl | rfl | rfl
    · obtain rfl := Option.some.inj hq; exact k0
    · obtain rfl := Option.some.inj hq; exact k1
    · obtain rfl := Option.some.inj hq; exact k2
    · obtain rfl := Option.some.inj hq; exact k3
    · obtain rfl := Option.some.inj hq; exact k4
    · obtain rfl := Option.some.inj hq; exact k5
    · obtain rfl := Option.some.inj hq; exact k6
    · obtain rfl := Option.some.inj hq; exact k7
  · intro k q hq
    have hk : k < 4 := (List.getElem?_eq_some_iff.mp hq).1
    rcases (show k = 0 ∨ k = 1 ∨ k = 2 ∨ k = 3 by omega) with rfl | rfl | rfl | rfl
    · obtain rfl := Option.some.inj hq; exact ⟨fun n z => ⟨fun k h => (by cases h), ka1, a12, cp1, a13⟩, a11⟩
    · obtain rfl := Option.some.inj hq; exact ⟨fun n z => ⟨fun k h => (by cases h), ka2, a22, cp2, a23⟩, a21⟩
    · obtain rfl := Option.some.inj hq; exact ⟨fun n z => ⟨fun k h => (by cases h), ka3, a32, cp3, a33⟩, a34⟩
    · obtain rfl := Option.some.inj hq; exact ⟨fun n z => ⟨fun k h => (by cases h), ka4, a42, cp4, a43⟩, ka4, cp4, a42, a43, a41, a44⟩
  · refine ⟨fun w hw hk => ?_, ⟨va_Fw.of (hts _ q509) (hts _ q508) (hts _ q538) (hts _ q536) (hts _ q534), va_Fw.of (hts _ q509) (hts _ q508) (hts _ q514) (hts _ q512) (hts _ q510), va_Fw.of (hts _ q509) (hts _ q508) (hts _ q555) (hts _ q553) (hts _ q551)⟩, fun own k tx hm => zk_strR (hts _ hm), va_AO.of (hts _ q117), hts _ q115, zk_st.of (hts _ q212) (hs _ (by decide +kernel)) hA, zk_st.of (hts _ q214) (hs _ (by decide +kernel)) hA⟩
    have h0 := hts w hw
    cases w <;> first | exact va_Nw.of rfl h0 | exact absurd hk (fun h => by cases h)
  · exact fun q hq => zk_nc_of (hs _ (zk_nc_in q hq))
