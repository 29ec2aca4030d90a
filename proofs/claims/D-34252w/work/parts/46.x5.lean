/-! THE COMPONENT 5: looking at all, changing, counting all, barring; places -/
set_option maxRecDepth 100000
/-- the account of that kind and number -/
def kAo (k : kS) (kd n : Int32) : Option Nat :=
  if kd = 0 then (if zIn n 6 then some n.toNatClampNeg else none)
  else if kd = 1 then (if zIn n 3 then some (6 + n.toNatClampNeg) else none)
  else if kd = 2 then (if zIn n (kZ k 0) then some (9 + n.toNatClampNeg) else none) else none
theorem kAo_lt {k : kS} {kd n : Int32} {j : Nat} (h : kAo k kd n = some j) (h0 : kZ k 0 ≤ 21) (h1 : 1 ≤ kZ k 0) : j < 9 + kZ k 0 := by
  unfold kAo at h
  split at h
  · split at h
    · rename_i c
      obtain ⟨x, hx, e⟩ := zIn_of (by decide) c
      cases h; rw [e, nI_clamp (by omega)]; omega
    · cases h
  · split at h
    · split at h
      · rename_i c
        obtain ⟨x, hx, e⟩ := zIn_of (by decide) c
        cases h; rw [e, nI_clamp (by omega)]; omega
      · cases h
    · split at h
      · split at h
        · rename_i c
          obtain ⟨x, hx, e⟩ := zIn_of (by omega) c
          cases h; rw [e, nI_clamp (by omega)]; omega
        · cases h
      · cases h
def IOOB : String := "java/lang/IndexOutOfBoundsException"
def IAE : String := "java/lang/IllegalArgumentException"
def ISE : String := "java/lang/IllegalStateException"
section X5
variable {g : zG} {l : Launch} {A : Nat → Nat} {k : kS} {h : zH}
theorem c_xlookAll (hl : l.stackTraces = false) (hK : kIs g A k h) : zM g l yX1_lookAtAll (ws_ yX1_lookAtAll cX1_lookAtAll 2 none) 3 64 0 0 [.ref (A 0)] h (zRv (kH A (kLa k) h)) zNx := by
  refine zM.of (cc := cX1_lookAtAll) (nL := 2) (ret := none) (by decide) hl (zcat rfl) (Nat.le_of_ble_eq_true rfl) ?_
  intro Z hg hz hC hE hN
  subst hg
  subst hz
  change zW Z _ _ _ 0 [some _, none] []
  have hst := hC.2.2.2.2.2.2.2.1
  have hB := hK.2.2.2
  obtain ⟨fu, u1, u2⟩ := hK.2.2.1.2.2.2.1
  obtain ⟨fg, g1, g2⟩ := hK.2.2.1.2.2.2.2.1
  obtain ⟨mc, cc0, F, t1, t2, t3, t4, t5, -⟩ := hK.2.2.1.2.2.2.2.2.1
  have t5 : ∀ x, x < kZ k 0 → F x = .ref (A (29 + x)) := t5
  have h21 : kZ k 0 ≤ 21 := hB.1.2
  have step : ∀ n, n < 9 + kZ k 0 → ∃ (hKn : kIs Z.1 A (kLn k n) (kH A (kLn k n) h)), n < 9 + kZ (kLn k n) 0 ∧ (kN (kLn k n)).1 = (kN k).1 ∧ kH A (kLk (kLn k n) n (kN k).1) (kH A (kLn k n) h) = kH A (kLn k (n + 1)) h ∧ kFr h (kH A (kLn k n) h) := by
    intro n hn
    have e2 := kLn_2 k n
    refine ⟨hK.of2 e2, by rw [show kZ (kLn k n) = kZ k from congrArg (·.1) e2]; exact hn, by rw [show kN (kLn k n) = kN k from congrArg (·.2.2.2.2) e2], ?_, kH_fr hK (kSame.of2 e2) (fun _ _ q _ => q)⟩
    rw [kLn_s]
    exact kH_kH (k := kLn k n) (k' := kLk (kLn k n) n (kN k).1) kuA_same
  have l3 : ∀ p, p ≤ kZ k 0 → zW Z (kH A (kLn k (9 + p)) h) 0 0 55 [some (.ref (A 0)), some (.int (nI p))] [] := by
    refine zloop (kZ k 0) (fun p ih hp => ?_)
    have e2 := kLn_2 k (9 + p)
    have fr0 := kH_fr hK (kSame.of2 e2) (h0 := h) (fun _ _ q _ => q)
    have hKp := hK.of2 e2
    refine r_iload_n hC dX1_lookAtAll_55 rfl ?_
    refine r_aload_n hC dX1_lookAtAll_56 rfl (by first | rfl | exact zisR_rf _) ?_
    refine r_get hC 3 in_X1 (ci := 0) rfl (k_led hKp) (by decide) ⟨rfl, rfl, rfl⟩ q259 rfl dX1_lookAtAll_57 ?_
    refine r_callV hC (c_lsize hst _ (A 5) (A 8) (kZ k 0) mc (fr0 _ _ t1 rfl)) (fr0 _ _ t1 rfl) rfl q622 q623 q624 q43 q625 (n := 0) (by decide +kernel) rfl (Nat.le_of_ble_eq_true rfl) (Nat.le_of_ble_eq_true rfl) rfl (Nat.le_of_ble_eq_true rfl) (Nat.le_refl _) (Nat.le_refl _) dX1_lookAtAll_60 znx (zri ?_)
    refine r_icmp_geN hC dX1_lookAtAll_63 (tgt := 90) (by decide) (by omega) (by omega) (fun e1 => ?_) (fun e1 => ?_)
    · obtain rfl : p = kZ k 0 := by omega
      exact r_vret hC hE rfl dX1_lookAtAll_90 ⟨rfl, rfl⟩
    · obtain ⟨hKn, hj, hnow, hnx, fr⟩ := step (9 + p) (by omega)
      refine r_aload_n hC dX1_lookAtAll_66 rfl (by first | rfl | exact zisR_rf _) ?_
      refine r_get hC 3 in_X1 (ci := 0) rfl (k_led hKn) (by decide) ⟨rfl, rfl, rfl⟩ q259 rfl dX1_lookAtAll_67 ?_
      refine r_iload_n hC dX1_lookAtAll_70 rfl ?_
      refine r_callV hC (c_lget hst _ (A 5) (A 8) (kZ k 0) cc0 p F mc (fr _ _ t1 rfl) (fr _ _ t2 rfl) e1 t3 (by omega) (by rw [t5 p e1]; rfl)) (fr _ _ t1 rfl) rfl q626 q627 q628 q43 q629 (n := 1) (by decide +kernel) rfl (Nat.le_of_ble_eq_true rfl) (Nat.le_of_ble_eq_true rfl) rfl (Nat.le_of_ble_eq_true rfl) (Nat.le_refl _) (Nat.le_refl _) dX1_lookAtAll_71 znx (zri ?_)
      rw [t5 p e1]
      have hpr := k_prj hKn (p := p) (by omega)
      refine r_castY hC hpr rfl (nm := "AllotmentLedger$Project") q171 (Or.inr rfl) dX1_lookAtAll_74 ?_
      refine r_aload_n hC dX1_lookAtAll_77 rfl (by first | rfl | exact zisR_rf _) ?_
      refine r_get hC 6 in_X1 (ci := 0) rfl (k_led hKn) (by decide) ⟨rfl, rfl, rfl⟩ q262 rfl dX1_lookAtAll_78 ?_
      have e29 : A (29 + p) = A (20 + (9 + p)) := by rw [show 29 + p = 20 + (9 + p) by omega]
      rw [e29] at hpr
      rw [hnow, e29]
      refine r_callU hC (c_alook hst hKn (9 + p) (kN k).1 hj) hpr rfl rfl q1068 q1069 q1057 q1071 q44 q1061 (n := 1) (by decide +kernel) rfl (Nat.le_of_ble_eq_true rfl) (Nat.le_of_ble_eq_true rfl) rfl (Nat.le_of_ble_eq_true rfl) (Nat.le_refl _) (Nat.le_refl _) dX1_lookAtAll_81 znx (zrv ?_)
      rw [hnx]
      refine r_inc1 hC dX1_lookAtAll_84 (by first | exact (nI_1 _) | rfl) ?_
      refine r_goto hC dX1_lookAtAll_87 (tgt := 55) (by decide) ?_
      exact ih e1 (by omega)
  have l2 : ∀ p, p ≤ 3 → zW Z (kH A (kLn k (6 + p)) h) 0 0 29 [some (.ref (A 0)), some (.int (nI p))] [] := by
    refine zloop 3 (fun p ih hp => ?_)
    refine r_iload_n hC dX1_lookAtAll_29 rfl ?_
    refine r_iconst hC dX1_lookAtAll_30 (v := (nI 3)) (by decide) ?_
    first | refine r_icmp_geN hC dX1_lookAtAll_31 (tgt := 53) (by decide) (by first | omega | exact hB.1 _ | exact hB.2 _ _) (by first | omega | exact hB.1 _ | exact hB.2 _ _) (fun e1 => ?_) (fun e1 => ?_) | refine r_icmp_ge hC dX1_lookAtAll_31 (tgt := 53) (by decide) (fun e1 => ?_) (fun e1 => ?_)
    · obtain rfl : p = 3 := by omega
      refine r_iconst hC dX1_lookAtAll_53 (v := (nI 0)) (by decide) ?_
      refine r_ist1 hC dX1_lookAtAll_54 ?_
      exact l3 0 (Nat.zero_le _)
    · obtain ⟨hKn, hj, hnow, hnx, fr⟩ := step (6 + p) (by omega)
      refine r_aload_n hC dX1_lookAtAll_34 rfl (by first | rfl | exact zisR_rf _) ?_
      refine r_get hC 2 in_X1 (ci := 0) rfl (k_led hKn) (by decide) ⟨rfl, rfl, rfl⟩ q258 rfl dX1_lookAtAll_35 ?_
      refine r_iload_n hC dX1_lookAtAll_38 rfl ?_
      refine r_ald hC 6 (fr _ _ g1 rfl) (vp_in_nI (by omega : p < 3) (by decide)) (v := .ref (A (20 + (6 + p)))) (by rw [nI_clamp (by omega), g2 p (by omega), show 26 + p = 20 + (6 + p) by omega]) dX1_lookAtAll_39 (by simp) ?_
      refine r_aload_n hC dX1_lookAtAll_40 rfl (by first | rfl | exact zisR_rf _) ?_
      refine r_get hC 6 in_X1 (ci := 0) rfl (k_led hKn) (by decide) ⟨rfl, rfl, rfl⟩ q262 rfl dX1_lookAtAll_41 ?_
      rw [hnow]
      refine r_callA hC (c_alook hst hKn (6 + p) (kN k).1 hj) (k_sel hKn hj q1058 q1060) q1056 q1057 q44 q1061 (n := 1) (by decide +kernel) rfl (Nat.le_of_ble_eq_true rfl) (Nat.le_of_ble_eq_true rfl) rfl (Nat.le_of_ble_eq_true rfl) (Nat.le_refl _) (Nat.le_refl _) dX1_lookAtAll_44 znx (zrv ?_)
      rw [hnx]
      refine r_inc1 hC dX1_lookAtAll_47 (by first | exact (nI_1 _) | rfl) ?_
      refine r_goto hC dX1_lookAtAll_50 (tgt := 29) (by decide) ?_
      exact ih (by omega) (by omega)
  have l1 : ∀ p, p ≤ 6 → zW Z (kH A (kLn k p) h) 0 0 2 [some (.ref (A 0)), some (.int (nI p))] [] := by
    refine zloop 6 (fun p ih hp => ?_)
    refine r_iload_n hC dX1_lookAtAll_2 rfl ?_
    refine r_bipush hC dX1_lookAtAll_3 (v := (nI 6)) (by decide) ?_
    first | refine r_icmp_geN hC dX1_lookAtAll_5 (tgt := 27) (by decide) (by first | omega | exact hB.1 _ | exact hB.2 _ _) (by first | omega | exact hB.1 _ | exact hB.2 _ _) (fun e1 => ?_) (fun e1 => ?_) | refine r_icmp_ge hC dX1_lookAtAll_5 (tgt := 27) (by decide) (fun e1 => ?_) (fun e1 => ?_)
    · obtain rfl : p = 6 := by omega
      refine r_iconst hC dX1_lookAtAll_27 (v := (nI 0)) (by decide) ?_
      refine r_ist1 hC dX1_lookAtAll_28 ?_
      exact l2 0 (Nat.zero_le _)
    · obtain ⟨hKn, hj, hnow, hnx, fr⟩ := step p (by omega)
      refine r_aload_n hC dX1_lookAtAll_8 rfl (by first | rfl | exact zisR_rf _) ?_
      refine r_get hC 1 in_X1 (ci := 0) rfl (k_led hKn) (by decide) ⟨rfl, rfl, rfl⟩ q257 rfl dX1_lookAtAll_9 ?_
      refine r_iload_n hC dX1_lookAtAll_12 rfl ?_
      refine r_ald hC 6 (fr _ _ u1 rfl) (vp_in_nI (by omega : p < 6) (by decide)) (v := .ref (A (20 + p))) (by rw [nI_clamp (by omega), u2 p (by omega)]) dX1_lookAtAll_13 (by simp) ?_
      refine r_aload_n hC dX1_lookAtAll_14 rfl (by first | rfl | exact zisR_rf _) ?_
      refine r_get hC 6 in_X1 (ci := 0) rfl (k_led hKn) (by decide) ⟨rfl, rfl, rfl⟩ q262 rfl dX1_lookAtAll_15 ?_
      rw [hnow]
      refine r_callA hC (c_alook hst hKn p (kN k).1 hj) (k_sel hKn hj q1058 q1060) q1056 q1057 q44 q1061 (n := 1) (by decide +kernel) rfl (Nat.le_of_ble_eq_true rfl) (Nat.le_of_ble_eq_true rfl) rfl (Nat.le_of_ble_eq_true rfl) (Nat.le_refl _) (Nat.le_refl _) dX1_lookAtAll_18 znx (zrv ?_)
      rw [hnx]
      refine r_inc1 hC dX1_lookAtAll_21 (by first | exact (nI_1 _) | rfl) ?_
      refine r_goto hC dX1_lookAtAll_24 (tgt := 2) (by decide) ?_
      exact ih (by omega) (by omega)
  refine r_iconst hC dX1_lookAtAll_0 (v := (nI 0)) (by decide) ?_
  refine r_ist1 hC dX1_lookAtAll_1 ?_
  have h0 := l1 0 (Nat.zero_le _)
  rw [show kH A (kLn k 0) h = h from kH_id hK] at h0
  exact h0
theorem c_change (hl : l.stackTraces = false) (hK : kIs g A k h) (i : Nat) (b d : Int32) (hi : i < kZ k 1) (hpc : kPc k (kT k 1 i)) : zM g l yX1_change (ws_ yX1_change cX1_change 4 none) 13 482 10 160 [.ref (A 0), .ref (A (60 + i)), .int b, .int d] h (zRv (kH A (kChg k i b d) h)) zNx := by
  refine zM.of (cc := cX1_change) (nL := 4) (ret := none) (by decide) hl (zcat rfl) (Nat.le_of_ble_eq_true rfl) ?_
  intro Z hg hz hC hE hN
  subst hg
  subst hz
  change zW Z _ _ _ 0 [some _, some _, some _, some _] []
  have hst := hC.2.2.2.2.2.2.2.1
  have e1 := kCnt_2 k i (-1)
  have hK1 := hK.of2 e1
  have hi1 : i < kZ (kCnt k i (-1)) 1 := by rw [show kZ (kCnt k i (-1)) = kZ k from congrArg (·.1) e1]; exact hi
  refine r_aload_n hC dX1_change_0 rfl (by first | rfl | exact zisR_rf _) ?_
  refine r_aload_n hC dX1_change_1 rfl (by first | rfl | exact zisR_rf _) ?_
  refine r_iconst hC dX1_change_2 (v := -1) (by decide) ?_
  refine r_callV hC (c_count hst hK i (-1) hi hpc) (k_led hK) rfl q1038 q1040 qs8 q36 q1041 (n := 2) (by decide +kernel) rfl (Nat.le_of_ble_eq_true rfl) (Nat.le_of_ble_eq_true rfl) rfl (Nat.le_of_ble_eq_true rfl) (cb' := 5) (sb' := 80) (by omega) (by omega) dX1_change_3 znx (zrv ?_)
  refine r_aload_n hC dX1_change_6 rfl (by first | rfl | exact zisR_rf _) ?_
  refine r_dup hC dX1_change_7 (by first | rfl | exact zcat1 _) ?_
  refine r_getN hC 3 in_X5 (ci := 3) (ref := "AllotmentLedger$Entry") (nm := "blocks") (ds := "I") (host := "AllotmentLedger") rfl (k_ent hK1 hi1) (by decide) ⟨rfl, rfl, rfl⟩ (by decide +kernel) rfl dX1_change_8 ?_
  refine r_iload_n hC dX1_change_11 rfl ?_
  refine r_iadd hC dX1_change_12 ?_
  refine e_putN hC hK1 0 (host := "AllotmentLedger") hi1 (by decide) rfl (by decide +kernel) dX1_change_13 ?_
  rw [kH_kH kuI_same]
  have hK2 := (hK.up (k' := kuI (kCnt k i (-1)) 0 i (kI (kCnt k i (-1)) 0 i + b)) ((kSame.of2 e1).tr kuI_same) (kB.of2 (k' := kCnt k i (-1)) e1 hK.2.2.2))
  refine r_aload_n hC dX1_change_16 rfl (by first | rfl | exact zisR_rf _) ?_
  refine r_dup hC dX1_change_17 (by first | rfl | exact zcat1 _) ?_
  refine r_getN hC 4 in_X5 (ci := 3) (ref := "AllotmentLedger$Entry") (nm := "held") (ds := "I") (host := "AllotmentLedger") rfl (k_ent hK2 (i := i) hi1) (by decide) ⟨rfl, rfl, rfl⟩ (by decide +kernel) rfl dX1_change_18 ?_
  refine r_iload_n hC dX1_change_21 rfl ?_
  refine r_iadd hC dX1_change_22 ?_
  refine e_putN hC hK2 1 (i := i) (host := "AllotmentLedger") hi1 (by decide) rfl (by decide +kernel) dX1_change_23 ?_
  rw [kH_kH kuI_same]
  have hk3 : kuI (kuI (kCnt k i (-1)) 0 i (kI (kCnt k i (-1)) 0 i + b)) 1 i (kI (kuI (kCnt k i (-1)) 0 i (kI (kCnt k i (-1)) 0 i + b)) 1 i + d) = kCh1 (kCnt k i (-1)) i b d := by
    simp [kCh1, kuI, kI]
  rw [hk3]
  have hK3 := (hK.up (k' := kCh1 (kCnt k i (-1)) i b d) (((kSame.of2 e1).tr kuI_same).tr kuI_same) (kB.of2 (k' := kCnt k i (-1)) e1 hK.2.2.2))
  have hpc3 : kPc (kCh1 (kCnt k i (-1)) i b d) (kT (kCh1 (kCnt k i (-1)) i b d) 1 i) := by
    show kPc (kCnt k i (-1)) (kT (kCnt k i (-1)) 1 i)
    rw [show kT (kCnt k i (-1)) = kT k from congrArg (·.2.1) e1]
    exact hpc.of2 e1
  refine r_aload_n hC dX1_change_26 rfl (by first | rfl | exact zisR_rf _) ?_
  refine r_aload_n hC dX1_change_27 rfl (by first | rfl | exact zisR_rf _) ?_
  refine r_iconst hC dX1_change_28 (v := (nI 1)) (by decide) ?_
  refine r_callV hC (c_count hst hK3 i 1 hi1 hpc3) (k_led hK3) rfl q1038 q1040 qs8 q36 q1041 (n := 2) (by decide +kernel) rfl (Nat.le_of_ble_eq_true rfl) (Nat.le_of_ble_eq_true rfl) rfl (Nat.le_of_ble_eq_true rfl) (cb' := 0) (sb' := 0) (by omega) (by omega) dX1_change_29 znx (zrv ?_)
  have e4 := kCnt_2 (kCh1 (kCnt k i (-1)) i b d) i 1
  rw [kH_kH (kSame.of2 e4)]
  have hK4 := (hK.up (k' := kCnt (kCh1 (kCnt k i (-1)) i b d) i 1) ((((kSame.of2 e1).tr kuI_same).tr kuI_same).tr (kSame.of2 e4)) (kB.of2 e4 (kB.of2 (k' := kCnt k i (-1)) e1 hK.2.2.2)))
  refine r_aload_n hC dX1_change_32 rfl (by first | rfl | exact zisR_rf _) ?_
  refine r_callV hC (c_xlookAll hst hK4) (k_led hK4) rfl q1052 q1054 qs10 q36 q1055 (n := 0) (by decide +kernel) rfl (Nat.le_of_ble_eq_true rfl) (Nat.le_of_ble_eq_true rfl) rfl (Nat.le_of_ble_eq_true rfl) (Nat.le_refl _) (Nat.le_refl _) dX1_change_33 znx (zrv ?_)
  rw [kH_kH (kSame.of2 (kLa_2 _))]
  exact r_vret hC hE rfl dX1_change_36 ⟨rfl, rfl⟩
theorem c_countAll (hl : l.stackTraces = false) (hK : kIs g A k h) (s : Int32) (hpc : ∀ i, i < kZ k 1 → kPc k (kT k 1 i)) : zM g l yX1_countAll (ws_ yX1_countAll cX1_countAll 3 none) 13 482 200 3200 [.ref (A 0), .int s] h (zRv (kH A (kCa k s (kZ k 1)) h)) zNx := by
  refine zM.of (cc := cX1_countAll) (nL := 3) (ret := none) (by decide) hl (zcat rfl) (Nat.le_of_ble_eq_true rfl) ?_
  intro Z hg hz hC hE hN
  subst hg
  subst hz
  change zW Z _ _ _ 0 [some _, some _, none] []
  have hst := hC.2.2.2.2.2.2.2.1
  have hB := hK.2.2.2
  have h40 : kZ k 1 ≤ 40 := hB.2.1
  obtain ⟨mc, cc0, F, t1, t2, t3, t4, t5, -⟩ := hK.2.2.1.2.2.2.2.2.2.1
  have t5 : ∀ x, x < kZ k 1 → F x = .ref (A (60 + x)) := t5
  have lp : ∀ i, i ≤ kZ k 1 → ∀ cb sb, 5 * (kZ k 1 - i) ≤ cb → 80 * (kZ k 1 - i) ≤ sb → zW Z (kH A (kCa k s i) h) cb sb 2 [some (.ref (A 0)), some (.int s), some (.int (nI i))] [] := by
    refine zloop (kZ k 1) (fun i ih hi cb sb hcb hsb => ?_)
    have e2 := kCa_2 k s i
    have fr := kH_fr hK (kSame.of2 e2) (h0 := h) (fun _ _ q _ => q)
    have hKi := hK.of2 e2
    refine r_iload_n hC dX1_countAll_2 rfl ?_
    refine r_aload_n hC dX1_countAll_3 rfl (by first | rfl | exact zisR_rf _) ?_
    refine r_get hC 4 in_X1 (ci := 0) rfl (k_led hKi) (by decide) ⟨rfl, rfl, rfl⟩ q260 rfl dX1_countAll_4 ?_
    refine r_callV hC (c_lsize hst _ (A 6) (A 9) (kZ k 1) mc (fr _ _ t1 rfl)) (fr _ _ t1 rfl) rfl q622 q623 q624 q43 q625 (n := 0) (by decide +kernel) rfl (Nat.le_of_ble_eq_true rfl) (Nat.le_of_ble_eq_true rfl) rfl (Nat.le_of_ble_eq_true rfl) (Nat.le_refl _) (Nat.le_refl _) dX1_countAll_7 znx (zri ?_)
    refine r_icmp_geN hC dX1_countAll_10 (tgt := 52) (by decide) (by omega) (by omega) (fun e1 => ?_) (fun e1 => ?_)
    · obtain rfl : i = kZ k 1 := by omega
      exact r_vret hC hE rfl dX1_countAll_52 ⟨rfl, rfl⟩
    · have hz : kZ (kCa k s i) = kZ k := congrArg (·.1) e2
      have hT : kT (kCa k s i) = kT k := congrArg (·.2.1) e2
      have hi4 : i < kZ (kCa k s i) 1 := by rw [hz]; exact e1
      have h2 := (hB.2.2.2.2.1 i e1).2.2
      have hent := k_ent hKi hi4
      refine r_aload_n hC dX1_countAll_13 rfl (by first | rfl | exact zisR_rf _) ?_
      refine r_get hC 4 in_X1 (ci := 0) rfl (k_led hKi) (by decide) ⟨rfl, rfl, rfl⟩ q260 rfl dX1_countAll_14 ?_
      refine r_iload_n hC dX1_countAll_17 rfl ?_
      refine r_callV hC (c_lget hst _ (A 6) (A 9) (kZ k 1) cc0 i F mc (fr _ _ t1 rfl) (fr _ _ t2 rfl) e1 t3 (by omega) (by rw [t5 i e1]; rfl)) (fr _ _ t1 rfl) rfl q626 q627 q628 q43 q629 (n := 1) (by decide +kernel) rfl (Nat.le_of_ble_eq_true rfl) (Nat.le_of_ble_eq_true rfl) rfl (Nat.le_of_ble_eq_true rfl) (Nat.le_refl _) (Nat.le_refl _) dX1_countAll_18 znx (zri ?_)
      rw [t5 i e1]
      refine r_castY hC hent rfl (nm := "AllotmentLedger$Entry") q1037 (Or.inr rfl) dX1_countAll_21 ?_
      refine r_getN hC 5 in_X5 (ci := 3) (ref := "AllotmentLedger$Entry") (nm := "isDeleted") (ds := "Z") (host := "AllotmentLedger") rfl hent (by decide) ⟨rfl, rfl, rfl⟩ (by decide +kernel) rfl dX1_countAll_24 ?_
      rw [hT]
      refine r_if_neN hC dX1_countAll_27 (tgt := 46) (by decide) (by omega) (fun e3 => ?_) (fun e3 => ?_)
      · have hs := kCa_s k s i
        rw [if_neg e3] at hs
        rw [← hs]
        refine r_inc2 hC dX1_countAll_46 (by first | exact (nI_1 _) | rfl) ?_
        refine r_goto hC dX1_countAll_49 (tgt := 2) (by decide) ?_
        exact ih e1 (by omega) cb sb (by omega) (by omega)
      · have hs := kCa_s k s i
        rw [if_pos e3] at hs
        refine r_aload_n hC dX1_countAll_30 rfl (by first | rfl | exact zisR_rf _) ?_
        refine r_aload_n hC dX1_countAll_31 rfl (by first | rfl | exact zisR_rf _) ?_
        refine r_get hC 4 in_X1 (ci := 0) rfl (k_led hKi) (by decide) ⟨rfl, rfl, rfl⟩ q260 rfl dX1_countAll_32 ?_
        refine r_iload_n hC dX1_countAll_35 rfl ?_
        refine r_callV hC (c_lget hst _ (A 6) (A 9) (kZ k 1) cc0 i F mc (fr _ _ t1 rfl) (fr _ _ t2 rfl) e1 t3 (by omega) (by rw [t5 i e1]; rfl)) (fr _ _ t1 rfl) rfl q626 q627 q628 q43 q629 (n := 1) (by decide +kernel) rfl (Nat.le_of_ble_eq_true rfl) (Nat.le_of_ble_eq_true rfl) rfl (Nat.le_of_ble_eq_true rfl) (Nat.le_refl _) (Nat.le_refl _) dX1_countAll_36 znx (zri ?_)
        rw [t5 i e1]
        refine r_castY hC hent rfl (nm := "AllotmentLedger$Entry") q1037 (Or.inr rfl) dX1_countAll_39 ?_
        refine r_iload_n hC dX1_countAll_42 rfl ?_
        refine r_callV hC (c_count hst hKi i s hi4 (by rw [hT]; exact (hpc i e1).of2 e2)) (k_led hKi) rfl q1038 q1040 qs8 q36 q1041 (n := 2) (by decide +kernel) rfl (Nat.le_of_ble_eq_true rfl) (Nat.le_of_ble_eq_true rfl) rfl (Nat.le_of_ble_eq_true rfl) (cb' := (cb-5)) (sb' := (sb-80)) (by omega) (by omega) dX1_countAll_43 znx (zrv ?_)
        rw [kH_kH (kSame.of2 (kCnt_2 _ _ _)), ← hs]
        refine r_inc2 hC dX1_countAll_46 (by first | exact (nI_1 _) | rfl) ?_
        refine r_goto hC dX1_countAll_49 (tgt := 2) (by decide) ?_
        exact ih e1 (by omega) _ _ (by omega) (by omega)
  refine r_iconst hC dX1_countAll_0 (v := (nI 0)) (by decide) ?_
  refine r_ist2 hC dX1_countAll_1 ?_
  have h0 := lp 0 (Nat.zero_le _) 200 3200 (by omega) (by omega)
  rw [show kH A (kCa k s 0) h = h from kH_id hK] at h0
  exact h0
theorem c_prjAt (hl : l.stackTraces = false) (hK : kIs g A k h) (p : Int32) : zM g l yX1_projectAt (ws_ yX1_projectAt cX1_projectAt 2 (some (.object "AllotmentLedger$Project"))) 7 109 1 6 [.ref (A 0), .int p] h (fun u h' => h' = h ∧ ∃ x, x < kZ k 0 ∧ p = nI x ∧ u = some (.ref (A (29 + x)))) (fun E h' => E = IOOB ∧ h' = h ∧ zIn p (kZ k 0) = false) := by
  refine zM.of (cc := cX1_projectAt) (nL := 2) (ret := (some (.object "AllotmentLedger$Project"))) (by decide) hl (zcat rfl) (Nat.le_of_ble_eq_true rfl) ?_
  intro Z hg hz hC hE hN
  subst hg
  subst hz
  change zW Z _ _ _ 0 [some _, some _] []
  have hst := hC.2.2.2.2.2.2.2.1
  have hB := hK.2.2.2
  obtain ⟨mc, cc0, F, t1, t2, t3, t4, t5, -⟩ := hK.2.2.1.2.2.2.2.2.1
  have t5 : ∀ x, x < kZ k 0 → F x = .ref (A (29 + x)) := t5
  have h21 : kZ k 0 ≤ 21 := hB.1.2
  refine r_iload_n hC dX1_projectAt_0 rfl ?_
  refine r_iconst hC dX1_projectAt_1 (v := (nI 0)) (by decide) ?_
  refine r_aload_n hC dX1_projectAt_2 rfl (by first | rfl | exact zisR_rf _) ?_
  refine r_get hC 3 in_X1 (ci := 0) rfl (k_led hK) (by decide) ⟨rfl, rfl, rfl⟩ q259 rfl dX1_projectAt_3 ?_
  refine r_callV hC (c_lsize hst _ (A 5) (A 8) (kZ k 0) mc t1) t1 rfl q622 q623 q624 q43 q625 (n := 0) (by decide +kernel) rfl (Nat.le_of_ble_eq_true rfl) (Nat.le_of_ble_eq_true rfl) rfl (Nat.le_of_ble_eq_true rfl) (cb' := 1) (sb' := 6) (by omega) (by omega) dX1_projectAt_6 znx (zri ?_)
  refine r_iconst hC dX1_projectAt_9 (v := (nI 1)) (by decide) ?_
  refine r_isub hC dX1_projectAt_10 ?_
  refine r_callS hC (c_xin hst p (nI 0) (nI (kZ k 0) - nI 1)) q962 q963 q36 q964 (n := 3) (by decide +kernel) rfl (Nat.le_of_ble_eq_true rfl) (Nat.le_of_ble_eq_true rfl) rfl (Nat.le_of_ble_eq_true rfl) (cb' := 1) (sb' := 6) (by omega) (by omega) dX1_projectAt_11 znx (zri ?_)
  rw [zIn_in (by omega)]
  refine r_callS hC (c_rqI hst (zIn p (kZ k 0))) q965 q966 q36 q967 (n := 1) (by decide +kernel) rfl (Nat.le_of_ble_eq_true rfl) (Nat.le_of_ble_eq_true rfl) rfl (Nat.le_of_ble_eq_true rfl) (cb' := 0) (sb' := 0) (by omega) (by omega) dX1_projectAt_14 (fun E h' e => by obtain ⟨rfl, rfl, hb⟩ := e; exact r_xout hC hE (fun _ q => by cases q) ⟨rfl, rfl, hb⟩) (fun v9 h9 e9 => ?_)
  obtain ⟨rfl, rfl, hin⟩ := e9
  obtain ⟨x, hx, rfl⟩ := zIn_of (by omega) hin
  refine r_aload_n hC dX1_projectAt_17 rfl (by first | rfl | exact zisR_rf _) ?_
  refine r_get hC 3 in_X1 (ci := 0) rfl (k_led hK) (by decide) ⟨rfl, rfl, rfl⟩ q259 rfl dX1_projectAt_18 ?_
  refine r_iload_n hC dX1_projectAt_21 rfl ?_
  refine r_callV hC (c_lget hst _ (A 5) (A 8) (kZ k 0) cc0 x F mc t1 t2 hx t3 (by omega) (by rw [t5 x hx]; rfl)) t1 rfl q626 q627 q628 q43 q629 (n := 1) (by decide +kernel) rfl (Nat.le_of_ble_eq_true rfl) (Nat.le_of_ble_eq_true rfl) rfl (Nat.le_of_ble_eq_true rfl) (Nat.le_refl _) (Nat.le_refl _) dX1_projectAt_22 znx (zri ?_)
  rw [t5 x hx]
  refine r_castY hC (k_prj hK hx) rfl (nm := "AllotmentLedger$Project") q171 (Or.inr rfl) dX1_projectAt_25 ?_
  exact r_aret hC hE rfl (by first | exact Or.inl ⟨_, rfl⟩ | exact Or.inr ⟨_, rfl⟩) (by first | rfl | exact zisR_rf _) dX1_projectAt_28 ⟨rfl, x, hx, rfl, rfl⟩
theorem c_entAt (hl : l.stackTraces = false) (hK : kIs g A k h) (p : Int32) : zM g l yX1_entryAt (ws_ yX1_entryAt cX1_entryAt 2 (some (.object "AllotmentLedger$Entry"))) 7 109 2 12 [.ref (A 0), .int p] h (fun u h' => h' = h ∧ ∃ x, x < kZ k 1 ∧ kT k 2 x = 0 ∧ p = nI x ∧ u = some (.ref (A (60 + x)))) (fun E h' => E = IOOB ∧ h' = h ∧ (zIn p (kZ k 1) && kT k 2 p.toNatClampNeg == 0) = false) := by
  refine zM.of (cc := cX1_entryAt) (nL := 2) (ret := (some (.object "AllotmentLedger$Entry"))) (by decide) hl (zcat rfl) (Nat.le_of_ble_eq_true rfl) ?_
  intro Z hg hz hC hE hN
  subst hg
  subst hz
  change zW Z _ _ _ 0 [some _, some _] []
  have hst := hC.2.2.2.2.2.2.2.1
  have hB := hK.2.2.2
  obtain ⟨mc, cc0, F, t1, t2, t3, t4, t5, -⟩ := hK.2.2.1.2.2.2.2.2.2.1
  have t5 : ∀ x, x < kZ k 1 → F x = .ref (A (60 + x)) := t5
  refine r_iload_n hC dX1_entryAt_0 rfl ?_
  refine r_iconst hC dX1_entryAt_1 (v := (nI 0)) (by decide) ?_
  refine r_aload_n hC dX1_entryAt_2 rfl (by first | rfl | exact zisR_rf _) ?_
  refine r_get hC 4 in_X1 (ci := 0) rfl (k_led hK) (by decide) ⟨rfl, rfl, rfl⟩ q260 rfl dX1_entryAt_3 ?_
  refine r_callV hC (c_lsize hst _ (A 6) (A 9) (kZ k 1) mc t1) t1 rfl q622 q623 q624 q43 q625 (n := 0) (by decide +kernel) rfl (Nat.le_of_ble_eq_true rfl) (Nat.le_of_ble_eq_true rfl) rfl (Nat.le_of_ble_eq_true rfl) (cb' := 2) (sb' := 12) (by omega) (by omega) dX1_entryAt_6 znx (zri ?_)
  refine r_iconst hC dX1_entryAt_9 (v := (nI 1)) (by decide) ?_
  refine r_isub hC dX1_entryAt_10 ?_
  refine r_callS hC (c_xin hst p (nI 0) (nI (kZ k 1) - nI 1)) q962 q963 q36 q964 (n := 3) (by decide +kernel) rfl (Nat.le_of_ble_eq_true rfl) (Nat.le_of_ble_eq_true rfl) rfl (Nat.le_of_ble_eq_true rfl) (cb' := 2) (sb' := 12) (by omega) (by omega) dX1_entryAt_11 znx (zri ?_)
  rw [zIn_in (by omega)]
  refine r_callS hC (c_rqI hst (zIn p (kZ k 1))) q965 q966 q36 q967 (n := 1) (by decide +kernel) rfl (Nat.le_of_ble_eq_true rfl) (Nat.le_of_ble_eq_true rfl) rfl (Nat.le_of_ble_eq_true rfl) (cb' := 1) (sb' := 6) (by omega) (by omega) dX1_entryAt_14 (fun E h' e => by obtain ⟨rfl, rfl, hb⟩ := e; exact r_xout hC hE (fun _ q => by cases q) ⟨rfl, rfl, by rw [hb]; rfl⟩) (fun v9 h9 e9 => ?_)
  obtain ⟨rfl, rfl, hin⟩ := e9
  obtain ⟨x, hx, rfl⟩ := zIn_of (by omega) hin
  have h2 := (hB.2.2.2.2.1 x hx).2.2
  have hxc : (nI x).toNatClampNeg = x := nI_clamp (by omega)
  have k39 : zW Z h9 1 6 39 [some (.ref (A 0)), some (.int (nI x))] [.int (nB (kT k 2 x == 0))] := by
    refine r_callS hC (c_rqI hst (kT k 2 x == 0)) q965 q966 q36 q967 (n := 1) (by decide +kernel) rfl (Nat.le_of_ble_eq_true rfl) (Nat.le_of_ble_eq_true rfl) rfl (Nat.le_of_ble_eq_true rfl) (cb' := 0) (sb' := 0) (by omega) (by omega) dX1_entryAt_39 (fun E h' e => by obtain ⟨rfl, rfl, hb⟩ := e; exact r_xout hC hE (fun _ q => by cases q) ⟨rfl, rfl, by rw [hxc, hb, Bool.and_false]⟩) (fun v9 h9 e9 => ?_)
    obtain ⟨rfl, rfl, hz⟩ := e9
    refine r_aload_n hC dX1_entryAt_42 rfl (by first | rfl | exact zisR_rf _) ?_
    refine r_get hC 4 in_X1 (ci := 0) rfl (k_led hK) (by decide) ⟨rfl, rfl, rfl⟩ q260 rfl dX1_entryAt_43 ?_
    refine r_iload_n hC dX1_entryAt_46 rfl ?_
    refine r_callV hC (c_lget hst _ (A 6) (A 9) (kZ k 1) cc0 x F mc t1 t2 hx t3 (by omega) (by rw [t5 x hx]; rfl)) t1 rfl q626 q627 q628 q43 q629 (n := 1) (by decide +kernel) rfl (Nat.le_of_ble_eq_true rfl) (Nat.le_of_ble_eq_true rfl) rfl (Nat.le_of_ble_eq_true rfl) (Nat.le_refl _) (Nat.le_refl _) dX1_entryAt_47 znx (zri ?_)
    rw [t5 x hx]
    refine r_castY hC (k_ent hK hx) rfl (nm := "AllotmentLedger$Entry") q1037 (Or.inr rfl) dX1_entryAt_50 ?_
    exact r_aret hC hE rfl (by first | exact Or.inl ⟨_, rfl⟩ | exact Or.inr ⟨_, rfl⟩) (by first | rfl | exact zisR_rf _) dX1_entryAt_53 ⟨rfl, x, hx, by simpa using hz, rfl, rfl⟩
  have kb := zbool hC dX1_entryAt_34 dX1_entryAt_35 dX1_entryAt_38 rfl rfl (by decide) k39
  refine r_aload_n hC dX1_entryAt_17 rfl (by first | rfl | exact zisR_rf _) ?_
  refine r_get hC 4 in_X1 (ci := 0) rfl (k_led hK) (by decide) ⟨rfl, rfl, rfl⟩ q260 rfl dX1_entryAt_18 ?_
  refine r_iload_n hC dX1_entryAt_21 rfl ?_
  refine r_callV hC (c_lget hst _ (A 6) (A 9) (kZ k 1) cc0 x F mc t1 t2 hx t3 (by omega) (by rw [t5 x hx]; rfl)) t1 rfl q626 q627 q628 q43 q629 (n := 1) (by decide +kernel) rfl (Nat.le_of_ble_eq_true rfl) (Nat.le_of_ble_eq_true rfl) rfl (Nat.le_of_ble_eq_true rfl) (Nat.le_refl _) (Nat.le_refl _) dX1_entryAt_22 znx (zri ?_)
  rw [t5 x hx]
  refine r_castY hC (k_ent hK hx) rfl (nm := "AllotmentLedger$Entry") q1037 (Or.inr rfl) dX1_entryAt_25 ?_
  refine r_getN hC 5 in_X5 (ci := 3) (ref := "AllotmentLedger$Entry") (nm := "isDeleted") (ds := "Z") (host := "AllotmentLedger") rfl (k_ent hK hx) (by decide) ⟨rfl, rfl, rfl⟩ (by decide +kernel) rfl dX1_entryAt_28 ?_
  refine r_if_neN hC dX1_entryAt_31 (tgt := 38) (by decide) (by omega) (fun e3 => kb.2 ?_) (fun e3 => kb.1 ?_)
  · exact beq_eq_false_iff_ne.mpr e3
  · exact beq_iff_eq.mpr e3
theorem c_xbar (hl : l.stackTraces = false) (hK : kIs g A k h) (i : Nat) (more : Int32) (hi : i < kZ k 1) (hpc : kPc k (kT k 1 i)) : zM g l yX1_barring (ws_ yX1_barring cX1_barring 5 (some .int)) 12 457 5 80 [.ref (A 0), .ref (A (60 + i)), .int more] h (zRi (.int (kBar k more (kAc k (kT k 0 i) (kT k 1 i)) 0)) h) zNx := by
  refine zM.of (cc := cX1_barring) (nL := 5) (ret := (some .int)) (by decide) hl (zcat rfl) (Nat.le_of_ble_eq_true rfl) ?_
  intro Z hg hz hC hE hN
  subst hg
  subst hz
  change zW Z _ _ _ 0 [some _, some _, some _, none, none] []
  have hst := hC.2.2.2.2.2.2.2.1
  have hB := hK.2.2.2
  have he := hB.2.2.2.2.1 i hi
  refine r_aload_n hC dX1_barring_0 rfl (by first | rfl | exact zisR_rf _) ?_
  refine r_aload_n hC dX1_barring_1 rfl (by first | rfl | exact zisR_rf _) ?_
  refine r_getN hC 1 in_X5 (ci := 3) (ref := "AllotmentLedger$Entry") (nm := "owner") (ds := "I") (host := "AllotmentLedger") rfl (k_ent hK hi) (by decide) ⟨rfl, rfl, rfl⟩ (by decide +kernel) rfl dX1_barring_2 ?_
  refine r_aload_n hC dX1_barring_5 rfl (by first | rfl | exact zisR_rf _) ?_
  refine r_getN hC 2 in_X5 (ci := 3) (ref := "AllotmentLedger$Entry") (nm := "project") (ds := "LAllotmentLedger$Project;") (host := "AllotmentLedger") rfl (k_ent hK hi) (by decide) ⟨rfl, rfl, rfl⟩ (by decide +kernel) rfl dX1_barring_6 ?_
  refine r_callV hC (c_acOf hst hK (kT k 0 i) (kT k 1 i) he.1 he.2.1 hpc) (k_led hK) rfl q1042 q1044 qs9 q36 q1045 (n := 2) (by decide +kernel) rfl (Nat.le_of_ble_eq_true rfl) (Nat.le_of_ble_eq_true rfl) rfl (Nat.le_of_ble_eq_true rfl) (cb' := 0) (sb' := 0) (by omega) (by omega) dX1_barring_9 znx (fun v9 h9 e9 => ?_)
  obtain ⟨b, c, rfl, hc, T⟩ := e9
  have hK1 := hK.le T.1
  generalize hls : kAc k (kT k 0 i) (kT k 1 i) = ls at T hE
  have hmem : ∀ (t j : Nat), ls[t]? = some j → j < 9 + kZ k 0 := fun t j q => kAc_lt he.1 hB.1.1 (by rw [hls]; exact List.mem_of_getElem? q)
  have hlen : (ls.map (fun j => A (20 + j))).length = ls.length := List.length_map _
  obtain ⟨mc, e, F, t1, t2, t3, t4⟩ := T.get
  rw [hlen] at t1 t3
  have lp : ∀ t, t ≤ ls.length → kBar k more ls 0 = kBar k more (ls.drop t) t → zW Z h9 0 0 16 [some (.ref (A 0)), some (.ref (A (60 + i))), some (.int more), some (.ref b), some (.int (nI t))] [] := by
    refine zloop ls.length (fun t ih ht hres => ?_)
    refine r_iload hC dX1_barring_16 rfl ?_
    refine r_aload_n hC dX1_barring_18 rfl (by first | rfl | exact zisR_rf _) ?_
    refine r_callV hC (c_lsize hst _ b e ls.length mc t1) t1 rfl q622 q623 q624 q43 q625 (n := 0) (by decide +kernel) rfl (Nat.le_of_ble_eq_true rfl) (Nat.le_of_ble_eq_true rfl) rfl (Nat.le_of_ble_eq_true rfl) (Nat.le_refl _) (Nat.le_refl _) dX1_barring_19 znx (zri ?_)
    refine r_icmp_geN hC dX1_barring_22 (tgt := 54) (by decide) (by omega) (by omega) (fun e1 => ?_) (fun e1 => ?_)
    · obtain rfl : t = ls.length := by omega
      rw [List.drop_length] at hres
      rw [hres] at hE
      refine zW.to (h' := h) T.1 (Nat.le_refl _) (Nat.le_refl _) ?_
      refine r_iconst hC dX1_barring_54 (v := (-1)) (by decide) ?_
      exact r_iret hC hE rfl dX1_barring_55 ⟨rfl, rfl⟩
    · obtain ⟨j, hj⟩ : ∃ j, ls[t]? = some j := ⟨_, List.getElem?_eq_getElem e1⟩
      have hjm := hmem t j hj
      have hF : F t = .ref (A (20 + j)) := t4 t _ (by rw [List.getElem?_map, hj]; rfl)
      have hdrop : ls.drop t = j :: ls.drop (t + 1) := by
        rw [List.drop_eq_getElem_cons e1]
        rw [List.getElem?_eq_getElem e1] at hj
        cases hj; rfl
      rw [hdrop] at hres
      refine r_aload_n hC dX1_barring_25 rfl (by first | rfl | exact zisR_rf _) ?_
      refine r_iload hC dX1_barring_26 rfl ?_
      refine r_callV hC (c_lget hst _ b e ls.length c t F mc t1 t2 e1 t3 (by omega) (by rw [hF]; rfl)) t1 rfl q626 q627 q628 q43 q629 (n := 1) (by decide +kernel) rfl (Nat.le_of_ble_eq_true rfl) (Nat.le_of_ble_eq_true rfl) rfl (Nat.le_of_ble_eq_true rfl) (Nat.le_refl _) (Nat.le_refl _) dX1_barring_28 znx (zri ?_)
      rw [hF]
      have hcast : ∀ kk : zW Z h9 0 0 34 [some (.ref (A 0)), some (.ref (A (60 + i))), some (.int more), some (.ref b), some (.int (nI t))] [.ref (A (20 + j))], zW Z h9 0 0 31 [some (.ref (A 0)), some (.ref (A (60 + i))), some (.int more), some (.ref b), some (.int (nI t))] [.ref (A (20 + j))] := fun kk => by
        rcases k_acc hK1 hjm with ⟨cj, ea⟩ | ⟨cj, ea⟩
        · exact r_castY hC ea rfl (nm := "AllotmentLedger$Account") q110 (Or.inr rfl) dX1_barring_31 kk
        · exact r_castY hC ea rfl (nm := "AllotmentLedger$Account") q110 (Or.inl (by decide +kernel)) dX1_barring_31 kk
      refine hcast ?_
      refine r_iload_n hC dX1_barring_34 rfl ?_
      refine r_aload_n hC dX1_barring_35 rfl (by first | rfl | exact zisR_rf _) ?_
      refine r_get hC 6 in_X1 (ci := 0) rfl (k_led hK1) (by decide) ⟨rfl, rfl, rfl⟩ q262 rfl dX1_barring_36 ?_
      refine r_callA hC (c_aBars hst hK1 j more (kN k).1 hjm) (k_sel hK1 hjm q1139 q1141) q1137 q1138 q44 q1142 (n := 2) (by decide +kernel) rfl (Nat.le_of_ble_eq_true rfl) (Nat.le_of_ble_eq_true rfl) rfl (Nat.le_of_ble_eq_true rfl) (Nat.le_refl _) (Nat.le_refl _) dX1_barring_39 znx (zri ?_)
      refine r_if_eqB hC dX1_barring_42 (tgt := 48) (by decide) (fun e2 => ?_) (fun e2 => ?_)
      · refine r_inc4 hC dX1_barring_48 (by first | exact (nI_1 _) | rfl) ?_
        refine r_goto hC dX1_barring_51 (tgt := 16) (by decide) ?_
        exact ih e1 (by omega) (by rw [hres, kBar, e2]; rfl)
      · rw [hres, kBar, e2] at hE
        refine zW.to (h' := h) T.1 (Nat.le_refl _) (Nat.le_refl _) ?_
        refine r_iload hC dX1_barring_45 rfl ?_
        exact r_iret hC hE rfl dX1_barring_47 ⟨rfl, rfl⟩
  refine r_ast3 hC dX1_barring_12 (by first | rfl | exact zisR_rf _) ?_
  refine r_iconst hC dX1_barring_13 (v := (nI 0)) (by decide) ?_
  refine r_ist4 hC dX1_barring_14 ?_
  exact lp 0 (Nat.zero_le _) rfl
theorem c_acAt (hl : l.stackTraces = false) (hK : kIs g A k h) (kd n : Int32) : zM g l yX1_accountAt (ws_ yX1_accountAt cX1_accountAt 3 (some (.object "AllotmentLedger$Account"))) 7 109 1 6 [.ref (A 0), .int kd, .int n] h (fun u h' => h' = h ∧ ∃ j, kAo k kd n = some j ∧ u = some (.ref (A (20 + j)))) (fun E h' => E = IOOB ∧ h' = h ∧ kAo k kd n = none) := by
  refine zM.of (cc := cX1_accountAt) (nL := 3) (ret := (some (.object "AllotmentLedger$Account"))) (by decide) hl (zcat rfl) (Nat.le_of_ble_eq_true rfl) ?_
  intro Z hg hz hC hE hN
  subst hg
  subst hz
  change zW Z _ _ _ 0 [some _, some _, some _] []
  have hst := hC.2.2.2.2.2.2.2.1
  have hB := hK.2.2.2
  obtain ⟨fu, u1, u2⟩ := hK.2.2.1.2.2.2.1
  obtain ⟨fg, g1, g2⟩ := hK.2.2.1.2.2.2.2.1
  obtain ⟨mc, cc0, F, t1, t2, t3, t4, t5, -⟩ := hK.2.2.1.2.2.2.2.2.1
  have t5 : ∀ x, x < kZ k 0 → F x = .ref (A (29 + x)) := t5
  have h21 : kZ k 0 ≤ 21 := hB.1.2
  have k49 : zW Z h 1 6 49 [some (.ref (A 0)), some (.int kd), some (.int n)] [.int (nB (kAo k kd n).isSome)] := by
    refine r_callS hC (c_rqI hst (kAo k kd n).isSome) q965 q966 q36 q967 (n := 1) (by decide +kernel) rfl (Nat.le_of_ble_eq_true rfl) (Nat.le_of_ble_eq_true rfl) rfl (Nat.le_of_ble_eq_true rfl) (cb' := 0) (sb' := 0) (by omega) (by omega) dX1_accountAt_49 (fun E h' e => by obtain ⟨rfl, rfl, hb⟩ := e; exact r_xout hC hE (fun _ q => by cases q) ⟨rfl, rfl, by simpa using hb⟩) (fun v9 h9 e9 => ?_)
    obtain ⟨rfl, rfl, hs⟩ := e9
    obtain ⟨j, hj⟩ := Option.isSome_iff_exists.mp hs
    have hjlt := kAo_lt hj hB.1.2 hB.1.1
    have k90 : zW Z h9 0 0 90 [some (.ref (A 0)), some (.int kd), some (.int n)] [.ref (A (20 + j))] := by
      exact r_aret hC hE rfl (by first | exact Or.inl ⟨_, rfl⟩ | exact Or.inr ⟨_, rfl⟩) (by first | rfl | exact zisR_rf _) dX1_accountAt_90 ⟨rfl, j, hj, rfl⟩
    refine r_iload_n hC dX1_accountAt_52 rfl ?_
    refine r_if_ne hC dX1_accountAt_53 (tgt := 65) (by decide) (fun e0 => ?_) (fun e0 => ?_)
    · refine r_iload_n hC dX1_accountAt_65 rfl ?_
      refine r_iconst hC dX1_accountAt_66 (v := (nI 1)) (by decide) ?_
      refine r_icmp_ne hC dX1_accountAt_67 (tgt := 79) (by decide) (fun e1 => ?_) (fun e1 => ?_)
      · have e1' : ¬ kd = 1 := e1
        unfold kAo at hj
        rw [if_neg e0, if_neg e1'] at hj
        by_cases e2 : kd = 2
        · rw [if_pos e2] at hj
          by_cases hz : zIn n (kZ k 0) = true
          · rw [if_pos hz] at hj
            obtain ⟨x, hx, rfl⟩ := zIn_of (by omega) hz
            rw [nI_clamp (by omega)] at hj
            obtain rfl : 9 + x = j := by cases hj; rfl
            refine r_aload_n hC dX1_accountAt_79 rfl (by first | rfl | exact zisR_rf _) ?_
            refine r_get hC 3 in_X1 (ci := 0) rfl (k_led hK) (by decide) ⟨rfl, rfl, rfl⟩ q259 rfl dX1_accountAt_80 ?_
            refine r_iload_n hC dX1_accountAt_83 rfl ?_
            refine r_callV hC (c_lget hst _ (A 5) (A 8) (kZ k 0) cc0 x F mc t1 t2 hx t3 (by omega) (by rw [t5 x hx]; rfl)) t1 rfl q626 q627 q628 q43 q629 (n := 1) (by decide +kernel) rfl (Nat.le_of_ble_eq_true rfl) (Nat.le_of_ble_eq_true rfl) rfl (Nat.le_of_ble_eq_true rfl) (Nat.le_refl _) (Nat.le_refl _) dX1_accountAt_84 znx (zri ?_)
            rw [t5 x hx]
            refine r_castY hC (k_prj hK hx) rfl (nm := "AllotmentLedger$Account") q110 (Or.inl (by decide +kernel)) dX1_accountAt_87 ?_
            rw [show A (29 + x) = A (20 + (9 + x)) by rw [show 29 + x = 20 + (9 + x) by omega]]
            exact k90
          · rw [if_neg hz] at hj; cases hj
        · rw [if_neg e2] at hj; cases hj
      · have e1' : kd = 1 := e1
        unfold kAo at hj
        rw [if_neg e0, if_pos e1'] at hj
        by_cases hz : zIn n 3 = true
        · rw [if_pos hz] at hj
          obtain ⟨x, hx, rfl⟩ := zIn_of (by decide) hz
          rw [nI_clamp (by omega)] at hj
          obtain rfl : 6 + x = j := by cases hj; rfl
          refine r_aload_n hC dX1_accountAt_70 rfl (by first | rfl | exact zisR_rf _) ?_
          refine r_get hC 2 in_X1 (ci := 0) rfl (k_led hK) (by decide) ⟨rfl, rfl, rfl⟩ q258 rfl dX1_accountAt_71 ?_
          refine r_iload_n hC dX1_accountAt_74 rfl ?_
          refine r_ald hC 6 g1 (vp_in_nI hx (by decide)) (v := .ref (A (20 + (6 + x)))) (by rw [nI_clamp (by omega), g2 x hx, show 26 + x = 20 + (6 + x) by omega]) dX1_accountAt_75 (by simp) ?_
          refine r_goto hC dX1_accountAt_76 (tgt := 90) (by decide) ?_
          exact k90
        · rw [if_neg hz] at hj; cases hj
    · unfold kAo at hj
      rw [if_pos e0] at hj
      by_cases hz : zIn n 6 = true
      · rw [if_pos hz] at hj
        obtain ⟨x, hx, rfl⟩ := zIn_of (by decide) hz
        rw [nI_clamp (by omega)] at hj
        obtain rfl : x = j := by cases hj; rfl
        refine r_aload_n hC dX1_accountAt_56 rfl (by first | rfl | exact zisR_rf _) ?_
        refine r_get hC 1 in_X1 (ci := 0) rfl (k_led hK) (by decide) ⟨rfl, rfl, rfl⟩ q257 rfl dX1_accountAt_57 ?_
        refine r_iload_n hC dX1_accountAt_60 rfl ?_
        refine r_ald hC 6 u1 (vp_in_nI hx (by decide)) (v := .ref (A (20 + x))) (by rw [nI_clamp (by omega), u2 x hx]) dX1_accountAt_61 (by simp) ?_
        refine r_goto hC dX1_accountAt_62 (tgt := 90) (by decide) ?_
        exact k90
      · rw [if_neg hz] at hj; cases hj
  have kb := zbool hC dX1_accountAt_44 dX1_accountAt_45 dX1_accountAt_48 rfl rfl (by decide) k49
  have k38 : ∀ m, m < 100 → (zIn n m = true ↔ (kAo k kd n).isSome = true) → zW Z h 1 6 36 [some (.ref (A 0)), some (.int kd), some (.int n)] [.int (nI m), .int (nI 0), .int n] := by
    intro m hm hiff
    refine r_iconst hC dX1_accountAt_36 (v := (nI 1)) (by decide) ?_
    refine r_isub hC dX1_accountAt_37 ?_
    refine r_callS hC (c_xin hst n (nI 0) (nI m - nI 1)) q962 q963 q36 q964 (n := 3) (by decide +kernel) rfl (Nat.le_of_ble_eq_true rfl) (Nat.le_of_ble_eq_true rfl) rfl (Nat.le_of_ble_eq_true rfl) (cb' := 1) (sb' := 6) (by omega) (by omega) dX1_accountAt_38 znx (zri ?_)
    rw [zIn_in (by omega)]
    refine r_if_eqB hC dX1_accountAt_41 (tgt := 48) (by decide) (fun e2 => kb.2 ?_) (fun e2 => kb.1 (hiff.mp e2))
    cases hx : (kAo k kd n).isSome with
    | false => rfl
    | true => rw [hiff.mpr hx] at e2; cases e2
  refine r_iload_n hC dX1_accountAt_0 rfl ?_
  refine r_iconst hC dX1_accountAt_1 (v := (nI 0)) (by decide) ?_
  refine r_iconst hC dX1_accountAt_2 (v := (nI 2)) (by decide) ?_
  refine r_callS hC (c_xin hst kd (nI 0) (nI 2)) q962 q963 q36 q964 (n := 3) (by decide +kernel) rfl (Nat.le_of_ble_eq_true rfl) (Nat.le_of_ble_eq_true rfl) rfl (Nat.le_of_ble_eq_true rfl) (cb' := 1) (sb' := 6) (by omega) (by omega) dX1_accountAt_3 znx (zri ?_)
  rw [zIn_c (by decide)]
  refine r_if_eqB hC dX1_accountAt_6 (tgt := 48) (by decide) (fun e0 => kb.2 ?_) (fun e0 => ?_)
  · have h0 : ¬ kd = 0 := fun q => by rw [q] at e0; exact absurd e0 (by decide)
    have h1 : ¬ kd = 1 := fun q => by rw [q] at e0; exact absurd e0 (by decide)
    have h2 : ¬ kd = 2 := fun q => by rw [q] at e0; exact absurd e0 (by decide)
    unfold kAo
    rw [if_neg h0, if_neg h1, if_neg h2]; rfl
  · refine r_iload_n hC dX1_accountAt_9 rfl ?_
    refine r_iconst hC dX1_accountAt_10 (v := (nI 0)) (by decide) ?_
    refine r_iload_n hC dX1_accountAt_11 rfl ?_
    refine r_if_ne hC dX1_accountAt_12 (tgt := 20) (by decide) (fun e1 => ?_) (fun e1 => ?_)
    · refine r_iload_n hC dX1_accountAt_20 rfl ?_
      refine r_iconst hC dX1_accountAt_21 (v := (nI 1)) (by decide) ?_
      refine r_icmp_ne hC dX1_accountAt_22 (tgt := 29) (by decide) (fun e2 => ?_) (fun e2 => ?_)
      · have e2' : ¬ kd = 1 := e2
        have h2 : kd = 2 := by
          obtain ⟨x, hx, rfl⟩ := zIn_of (by decide) e0
          have : x ≠ 0 := fun q => e1 (by rw [q]; rfl)
          have : x ≠ 1 := fun q => e2' (by rw [q]; rfl)
          obtain rfl : x = 2 := by omega
          rfl
        refine r_aload_n hC dX1_accountAt_29 rfl (by first | rfl | exact zisR_rf _) ?_
        refine r_get hC 3 in_X1 (ci := 0) rfl (k_led hK) (by decide) ⟨rfl, rfl, rfl⟩ q259 rfl dX1_accountAt_30 ?_
        refine r_callV hC (c_lsize hst _ (A 5) (A 8) (kZ k 0) mc t1) t1 rfl q622 q623 q624 q43 q625 (n := 0) (by decide +kernel) rfl (Nat.le_of_ble_eq_true rfl) (Nat.le_of_ble_eq_true rfl) rfl (Nat.le_of_ble_eq_true rfl) (cb' := 1) (sb' := 6) (by omega) (by omega) dX1_accountAt_33 znx (zri ?_)
        refine k38 (kZ k 0) (by omega) ?_
        unfold kAo
        rw [if_neg e1, if_neg e2', if_pos h2]
        by_cases hz : zIn n (kZ k 0) = true
        · rw [if_pos hz]; simp [hz]
        · rw [if_neg hz]; simp [hz]
      · have e2' : kd = 1 := e2
        refine r_iconst hC dX1_accountAt_25 (v := (nI 3)) (by decide) ?_
        refine r_goto hC dX1_accountAt_26 (tgt := 36) (by decide) ?_
        refine k38 3 (by decide) ?_
        unfold kAo
        rw [if_neg e1, if_pos e2']
        by_cases hz : zIn n 3 = true
        · rw [if_pos hz]; simp [hz]
        · rw [if_neg hz]; simp [hz]
    · refine r_bipush hC dX1_accountAt_15 (v := (nI 6)) (by decide) ?_
      refine r_goto hC dX1_accountAt_17 (tgt := 36) (by decide) ?_
      refine k38 6 (by decide) ?_
      unfold kAo
      rw [if_pos e1]
      by_cases hz : zIn n 6 = true
      · rw [if_pos hz]; simp [hz]
      · rw [if_neg hz]; simp [hz]
end X5

