/-! THE COMPONENT 7: write, delete, moveFile, settle -/
set_option maxRecDepth 100000
def kEo (k : kS) (f : Int32) : Bool := zIn f (kZ k 1) && kT k 2 f.toNatClampNeg == 0
def kWa (k : kS) (x : Nat) (b : Int32) : Bool := kIn b (-1000) 1000 && !decide (kI k 0 x + b < 0)
def kPl (k : kS) (x : Nat) (b : Int32) : Int32 := kBar k b (kAc k (kT k 0 x) (kT k 1 x)) 0
def kWp (k : kS) (x : Nat) (b : Int32) : Int32 := if b ≤ 0 then -1 else kPl k x b
theorem kEo_x {k : kS} {x : Nat} (h1 : kZ k 1 ≤ 40) (hx : x < kZ k 1) (h0 : kT k 2 x = 0) : kEo k (nI x) = true := by
  unfold kEo
  rw [zIn_nI (by omega) hx, nI_clamp (by omega), h0]; rfl
theorem kChg_2 (k : kS) (i : Nat) (b d : Int32) : (kChg k i b d).2 = (kCh1 k i b d).2 := by
  have e := kCnt_2 k i (-1)
  unfold kChg
  rw [kLa_2, kCnt_2]
  unfold kCh1 kuI kI
  simp only [e]
theorem kChg_same (k : kS) (i : Nat) (b d : Int32) : kSame k (kChg k i b d) := (kuI_same.tr kuI_same : kSame k (kCh1 k i b d)).tr (kSame.of2 (kChg_2 k i b d))
theorem kChg_B {k : kS} (hB : kB k) (i : Nat) (b d : Int32) : kB (kChg k i b d) := kB.of2 (k := kCh1 k i b d) (kChg_2 k i b d) hB
/-- reservations of file x closed, the first n -/
def kDl (k : kS) (x n : Nat) : kS := (List.range n).foldl (fun k r => kuT k 4 r (if kT k 4 r = 0 ∧ kT k 3 r ≠ x then 0 else 1)) k
def kDel (k : kS) (x : Nat) : kS := kLa (kuT (kCnt (kDl k x (kZ k 2)) x (-1)) 2 x 1)
def kMv (k : kS) (x y : Nat) : kS := kLa (kCnt (kuT (kCnt k x (-1)) 1 x y) x 1)
def kStl (k : kS) (r : Nat) (b : Int32) : kS := kChg (kuT k 4 r 1) (kT k 3 r) b (-(kI k 2 r))
theorem kDl_s (k : kS) (x n : Nat) : kDl k x (n + 1) = kuT (kDl k x n) 4 n (if kT (kDl k x n) 4 n = 0 ∧ kT (kDl k x n) 3 n ≠ x then 0 else 1) := by
  unfold kDl
  rw [List.range_succ, List.foldl_append]; rfl
theorem kDl_p (k : kS) (x n : Nat) : (kDl k x n).1 = k.1 ∧ (kDl k x n).2.1 = k.2.1 ∧ (kDl k x n).2.2.2 = k.2.2.2 ∧ (∀ t, t ≠ 4 → kT (kDl k x n) t = kT k t) ∧ ∀ r, n ≤ r → kT (kDl k x n) 4 r = kT k 4 r := by
  induction n with
  | zero => exact ⟨rfl, rfl, rfl, fun _ _ => rfl, fun _ _ => rfl⟩
  | succ n ih =>
    rw [kDl_s]
    refine ⟨ih.1, ih.2.1, ih.2.2.1, fun t ht => ?_, fun r hr => ?_⟩
    · rw [← ih.2.2.2.1 t ht]
      funext j
      show nup2 _ 4 n _ t j = _
      simp only [nup2]; rw [if_neg (by omega)]
    · rw [← ih.2.2.2.2 r (by omega)]
      show nup2 _ 4 n _ 4 r = _
      simp only [nup2]; rw [if_neg (by omega)]
theorem kDl_same (k : kS) (x n : Nat) : kSame k (kDl k x n) := by
  obtain ⟨-, e1, e2, e3, -⟩ := kDl_p k x n
  exact ⟨fun i _ => congrFun e1 i, e3 5 (by decide), e3 6 (by decide), congrArg (·.1) e2⟩
theorem kDl_B {k : kS} (hB : kB k) (x n : Nat) : kB (kDl k x n) := by
  induction n with
  | zero => exact hB
  | succ n ih =>
    rw [kDl_s]
    obtain ⟨b1, b2, b3, b4, b5, b6, b7⟩ := ih
    refine ⟨b1, b2, b3, b4, fun i hi => ?_, fun r hr => ?_, fun p hp => ?_⟩
    · have := b5 i hi
      simpa [kuT, kT, kZ, nup2] using this
    · have := b6 r hr
      refine ⟨by simpa [kuT, kT, kZ, nup2] using this.1, ?_⟩
      show nup2 _ 4 n _ 4 r < 2
      simp only [nup2, true_and]
      split
      · split <;> omega
      · exact this.2
    · have := b7 p hp
      simpa [kuT, kT, kZ, nup2] using this
theorem kPc.same {k k' : kS} {p : Nat} (e : kSame k k') (h : kPc k p) : kPc k' p := by
  unfold kPc kFd at h ⊢
  rw [e.1 0 (by decide), e.2.1, e.2.2.2]
  exact h
section X7
variable {g : zG} {l : Launch} {A : Nat → Nat} {k : kS} {h : zH}
theorem c_xwrite (hl : l.stackTraces = false) (hK : kIs g A k h) (hP : ∀ p, p < kZ k 0 → kPc k p) (f b : Int32) : zM g l yX1_write (ws_ yX1_write cX1_write 5 (some .int)) 14 505 18 258 [.ref (A 0), .int f, .int b] h (fun u h' => ∃ x, x < kZ k 1 ∧ kT k 2 x = 0 ∧ f = nI x ∧ kWa k x b = true ∧ (kWp k x b ≠ -1 ∧ u = some (.int (-2 - kWp k x b)) ∧ h' = h ∨ kWp k x b = -1 ∧ u = some (.int (kI (kChg k x b 0) 0 x)) ∧ h' = kH A (kChg k x b 0) h)) (fun E h' => h' = h ∧ (E = IOOB ∧ kEo k f = false ∨ E = IAE ∧ ∃ x, x < kZ k 1 ∧ kT k 2 x = 0 ∧ f = nI x ∧ kWa k x b = false)) := by
  refine zM.of (cc := cX1_write) (nL := 5) (ret := (some .int)) (by decide) hl (zcat rfl) (Nat.le_of_ble_eq_true rfl) ?_
  intro Z hg hz hC hE hN
  subst hg
  subst hz
  change zW Z _ _ _ 0 [some _, some _, some _, none, none] []
  have hst := hC.2.2.2.2.2.2.2.1
  have hB := hK.2.2.2
  refine r_aload_n hC dX1_write_0 rfl (by first | rfl | exact zisR_rf _) ?_
  refine r_iload_n hC dX1_write_1 rfl ?_
  refine r_callV hC (c_entAt hst hK f) (k_led hK) rfl q1129 q1131 qs11 q36 q1132 (n := 1) (by decide +kernel) rfl (Nat.le_of_ble_eq_true rfl) (Nat.le_of_ble_eq_true rfl) rfl (Nat.le_of_ble_eq_true rfl) (cb' := 16) (sb' := 246) (by omega) (by omega) dX1_write_2 (fun E h' e => by obtain ⟨rfl, rfl, hb⟩ := e; exact r_xout hC hE (fun _ q => by cases q) ⟨rfl, Or.inl ⟨rfl, hb⟩⟩) (fun v9 h9 e9 => ?_)
  obtain ⟨rfl, x, hx, h0, rfl, rfl⟩ := e9
  have hpx := (hB.2.2.2.2.1 x hx).2.1
  have k50 : ∀ pl, kWp k x b = pl → kWa k x b = true → zW Z h9 10 160 50 [some (.ref (A 0)), some (.int (nI x)), some (.int b), some (.ref (A (60 + x))), none] [.int pl] := by
    intro pl hpl hwa
    subst hpl
    refine r_ist4 hC dX1_write_50 ?_
    refine r_iload hC dX1_write_52 rfl ?_
    refine r_iconst hC dX1_write_54 (v := -1) (by decide) ?_
    refine r_icmp_eq hC dX1_write_55 (tgt := 64) (by decide) (fun e => ?_) (fun e => ?_)
    · have e' : kWp k x b = -1 := e
      refine r_aload_n hC dX1_write_64 rfl (by first | rfl | exact zisR_rf _) ?_
      refine r_aload_n hC dX1_write_65 rfl (by first | rfl | exact zisR_rf _) ?_
      refine r_iload_n hC dX1_write_66 rfl ?_
      refine r_iconst hC dX1_write_67 (v := (nI 0)) (by decide) ?_
      refine r_callV hC (c_change hst hK x b 0 hx (hP _ hpx)) (k_led hK) rfl q1149 q1151 qs13 q36 q1152 (n := 3) (by decide +kernel) rfl (Nat.le_of_ble_eq_true rfl) (Nat.le_of_ble_eq_true rfl) rfl (Nat.le_of_ble_eq_true rfl) (cb' := 0) (sb' := 0) (by omega) (by omega) dX1_write_68 znx (zrv ?_)
      have hKc := hK.up (kChg_same k x b 0) (kChg_B hB x b 0)
      have hxc : x < kZ (kChg k x b 0) 1 := by rw [(kChg_same k x b 0).1 1 (by decide)]; exact hx
      refine r_aload_n hC dX1_write_71 rfl (by first | rfl | exact zisR_rf _) ?_
      refine r_getN hC 3 in_X5 (ci := 3) (ref := "AllotmentLedger$Entry") (nm := "blocks") (ds := "I") (host := "AllotmentLedger") rfl (k_ent hKc hxc) (by decide) ⟨rfl, rfl, rfl⟩ (by decide +kernel) rfl dX1_write_72 ?_
      exact r_iret hC hE rfl dX1_write_75 ⟨x, hx, h0, rfl, hwa, Or.inr ⟨e', rfl, rfl⟩⟩
    · have e' : ¬ kWp k x b = -1 := e
      refine r_bipush hC dX1_write_58 (v := (-2)) (by decide) ?_
      refine r_iload hC dX1_write_60 rfl ?_
      refine r_isub hC dX1_write_62 ?_
      exact r_iret hC hE rfl dX1_write_63 ⟨x, hx, h0, rfl, hwa, Or.inl ⟨e', rfl, rfl⟩⟩
  have k33 : zW Z h9 16 246 33 [some (.ref (A 0)), some (.int (nI x)), some (.int b), some (.ref (A (60 + x))), none] [.int (nB (kWa k x b))] := by
    refine r_callS hC (c_rqA hst (kWa k x b)) q849 q850 q36 q851 (n := 1) (by decide +kernel) rfl (Nat.le_of_ble_eq_true rfl) (Nat.le_of_ble_eq_true rfl) rfl (Nat.le_of_ble_eq_true rfl) (cb' := 15) (sb' := 240) (by omega) (by omega) dX1_write_33 (fun E h' e => by obtain ⟨rfl, rfl, hb⟩ := e; exact r_xout hC hE (fun _ q => by cases q) ⟨rfl, Or.inr ⟨rfl, x, hx, h0, rfl, hb⟩⟩) (fun v9 h9 e9 => ?_)
    obtain ⟨rfl, rfl, hwa⟩ := e9
    refine r_iload_n hC dX1_write_36 rfl ?_
    refine r_if_le hC dX1_write_37 (tgt := 49) (by decide) (fun e => ?_) (fun e => ?_)
    · have hwp : kWp k x b = -1 := if_pos e
      refine zW.to zLe.rf (by decide : 10 ≤ 15) (by decide : 160 ≤ 240) ?_
      refine r_iconst hC dX1_write_49 (v := -1) (by decide) ?_
      exact k50 _ hwp hwa
    · have hwp : kWp k x b = kPl k x b := if_neg e
      refine r_aload_n hC dX1_write_40 rfl (by first | rfl | exact zisR_rf _) ?_
      refine r_aload_n hC dX1_write_41 rfl (by first | rfl | exact zisR_rf _) ?_
      refine r_iload_n hC dX1_write_42 rfl ?_
      refine r_callV hC (c_xbar hst hK x b hx (hP _ hpx)) (k_led hK) rfl q1133 q1135 qs12 q36 q1136 (n := 2) (by decide +kernel) rfl (Nat.le_of_ble_eq_true rfl) (Nat.le_of_ble_eq_true rfl) rfl (Nat.le_of_ble_eq_true rfl) (cb' := 10) (sb' := 160) (by omega) (by omega) dX1_write_43 znx (zri ?_)
      refine r_goto hC dX1_write_46 (tgt := 50) (by decide) ?_
      exact k50 _ hwp hwa
  have kb := zbool hC dX1_write_28 dX1_write_29 dX1_write_32 rfl rfl (by decide) k33
  refine r_ast3 hC dX1_write_5 (by first | rfl | exact zisR_rf _) ?_
  refine r_iload_n hC dX1_write_6 rfl ?_
  refine r_sipush hC dX1_write_7 (v := -1000) (by decide) ?_
  refine r_sipush hC dX1_write_10 (v := (nI 1000)) (by decide) ?_
  refine r_callS hC (c_xin hst b (-1000) (nI 1000)) q962 q963 q36 q964 (n := 3) (by decide +kernel) rfl (Nat.le_of_ble_eq_true rfl) (Nat.le_of_ble_eq_true rfl) rfl (Nat.le_of_ble_eq_true rfl) (cb' := 16) (sb' := 246) (by omega) (by omega) dX1_write_13 znx (zri ?_)
  refine r_if_eqB hC dX1_write_16 (tgt := 32) (by decide) (fun e => kb.2 ?_) (fun e1 => ?_)
  · have e' : kIn b (-1000) 1000 = false := e
    unfold kWa; rw [e']; rfl
  · have e1' : kIn b (-1000) 1000 = true := e1
    refine r_aload_n hC dX1_write_19 rfl (by first | rfl | exact zisR_rf _) ?_
    refine r_getN hC 3 in_X5 (ci := 3) (ref := "AllotmentLedger$Entry") (nm := "blocks") (ds := "I") (host := "AllotmentLedger") rfl (k_ent hK hx) (by decide) ⟨rfl, rfl, rfl⟩ (by decide +kernel) rfl dX1_write_20 ?_
    refine r_iload_n hC dX1_write_23 rfl ?_
    refine r_iadd hC dX1_write_24 ?_
    refine r_if_lt hC dX1_write_25 (tgt := 32) (by decide) (fun e => kb.2 ?_) (fun e => kb.1 ?_)
    · unfold kWa; rw [e1', decide_eq_true e]; rfl
    · unfold kWa; rw [e1', decide_eq_false e]; rfl
theorem c_xdelete (hl : l.stackTraces = false) (hK : kIs g A k h) (hP : ∀ p, p < kZ k 0 → kPc k p) (f : Int32) : zM g l yX1_delete (ws_ yX1_delete cX1_delete 6 (some .int)) 13 482 7 92 [.ref (A 0), .int f] h (fun u h' => ∃ x, x < kZ k 1 ∧ kT k 2 x = 0 ∧ f = nI x ∧ u = some (.int (kUse k x)) ∧ h' = kH A (kDel k x) h) (fun E h' => E = IOOB ∧ h' = h ∧ kEo k f = false) := by
  refine zM.of (cc := cX1_delete) (nL := 6) (ret := (some .int)) (by decide) hl (zcat rfl) (Nat.le_of_ble_eq_true rfl) ?_
  intro Z hg hz hC hE hN
  subst hg
  subst hz
  change zW Z _ _ _ 0 [some _, some _, none, none, none, none] []
  have hst := hC.2.2.2.2.2.2.2.1
  have hB := hK.2.2.2
  obtain ⟨mc, cc0, F, t1, t2, t3, t4, t5, -⟩ := hK.2.2.1.2.2.2.2.2.2.2.1
  have t5 : ∀ x, x < kZ k 2 → F x = .ref (A (100 + x)) := t5
  have h30 : kZ k 2 ≤ 30 := hB.2.2.1
  refine r_aload_n hC dX1_delete_0 rfl (by first | rfl | exact zisR_rf _) ?_
  refine r_iload_n hC dX1_delete_1 rfl ?_
  refine r_callV hC (c_entAt hst hK f) (k_led hK) rfl q1129 q1131 qs11 q36 q1132 (n := 1) (by decide +kernel) rfl (Nat.le_of_ble_eq_true rfl) (Nat.le_of_ble_eq_true rfl) rfl (Nat.le_of_ble_eq_true rfl) (cb' := 5) (sb' := 80) (by omega) (by omega) dX1_delete_2 (fun E h' e => by obtain ⟨rfl, rfl, hb⟩ := e; exact r_xout hC hE (fun _ q => by cases q) ⟨rfl, rfl, hb⟩) (fun v9 h9 e9 => ?_)
  obtain ⟨rfl, x, hx, h0, rfl, rfl⟩ := e9
  have hpx := (hB.2.2.2.2.1 x hx).2.1
  have lp : ∀ r, r ≤ kZ k 2 → ∀ x5, zW Z (kH A (kDl k x r) h9) 5 80 14 [some (.ref (A 0)), some (.int (nI x)), some (.ref (A (60 + x))), some (.int (kUse k x)), some (.int (nI r)), x5] [] := by
    refine zloop (kZ k 2) (fun r ih hr x5 => ?_)
    have hs := kDl_same k x r
    have hKr := hK.up hs (kDl_B hB x r)
    have fr := kH_fr hK hs (h0 := h9) (fun _ _ q _ => q)
    refine r_iload hC dX1_delete_14 rfl ?_
    refine r_aload_n hC dX1_delete_16 rfl (by first | rfl | exact zisR_rf _) ?_
    refine r_get hC 5 in_X1 (ci := 0) rfl (k_led hKr) (by decide) ⟨rfl, rfl, rfl⟩ q261 rfl dX1_delete_17 ?_
    refine r_callV hC (c_lsize hst _ (A 7) (A 10) (kZ k 2) mc (fr _ _ t1 rfl)) (fr _ _ t1 rfl) rfl q622 q623 q624 q43 q625 (n := 0) (by decide +kernel) rfl (Nat.le_of_ble_eq_true rfl) (Nat.le_of_ble_eq_true rfl) rfl (Nat.le_of_ble_eq_true rfl) (cb' := 5) (sb' := 80) (by omega) (by omega) dX1_delete_20 znx (zri ?_)
    refine r_icmp_geN hC dX1_delete_23 (tgt := 73) (by decide) (by omega) (by omega) (fun e1 => ?_) (fun e1 => ?_)
    · obtain rfl : r = kZ k 2 := by omega
      have hxr : x < kZ (kDl k x (kZ k 2)) 1 := by rw [hs.1 1 (by decide)]; exact hx
      have hT1 : kT (kDl k x (kZ k 2)) 1 x = kT k 1 x := congrFun ((kDl_p k x (kZ k 2)).2.2.2.1 1 (by decide)) x
      refine r_aload_n hC dX1_delete_73 rfl (by first | rfl | exact zisR_rf _) ?_
      refine r_aload_n hC dX1_delete_74 rfl (by first | rfl | exact zisR_rf _) ?_
      refine r_iconst hC dX1_delete_75 (v := -1) (by decide) ?_
      refine r_callV hC (c_count hst hKr x (-1) hxr (by rw [hT1]; exact (hP _ hpx).same hs)) (k_led hKr) rfl q1038 q1040 qs8 q36 q1041 (n := 2) (by decide +kernel) rfl (Nat.le_of_ble_eq_true rfl) (Nat.le_of_ble_eq_true rfl) rfl (Nat.le_of_ble_eq_true rfl) (cb' := 0) (sb' := 0) (by omega) (by omega) dX1_delete_76 znx (zrv ?_)
      have e2 := kCnt_2 (kDl k x (kZ k 2)) x (-1)
      rw [kH_kH (kSame.of2 e2)]
      have hKc := hK.up (hs.tr (kSame.of2 e2)) (kB.of2 e2 (kDl_B hB x (kZ k 2)))
      have hxc : x < kZ (kCnt (kDl k x (kZ k 2)) x (-1)) 1 := by rw [(kSame.of2 e2).1 1 (by decide)]; exact hxr
      refine r_aload_n hC dX1_delete_79 rfl (by first | rfl | exact zisR_rf _) ?_
      refine r_iconst hC dX1_delete_80 (v := (nI 1)) (by decide) ?_
      refine e_putDel hC hKc (x := 1) (host := "AllotmentLedger") hxc (by decide) rfl (by decide +kernel) dX1_delete_81 ?_
      rw [kH_kH (kuT_same (by decide))]
      have hBd : kB (kuT (kCnt (kDl k x (kZ k 2)) x (-1)) 2 x 1) := by
        obtain ⟨b1, b2, b3, b4, b5, b6, b7⟩ := kB.of2 e2 (kDl_B hB x (kZ k 2))
        refine ⟨b1, b2, b3, b4, fun i hi => ?_, fun r hr => ?_, fun p hp => ?_⟩
        · have := b5 i hi
          refine ⟨by simpa [kuT, kT, kZ, nup2] using this.1, by simpa [kuT, kT, kZ, nup2] using this.2.1, ?_⟩
          show nup2 _ 2 x _ 2 i < 2
          simp only [nup2, true_and]
          split
          · decide
          · exact this.2.2
        · have := b6 r hr
          simpa [kuT, kT, kZ, nup2] using this
        · have := b7 p hp
          simpa [kuT, kT, kZ, nup2] using this
      have hKd := hK.up (k' := kuT (kCnt (kDl k x (kZ k 2)) x (-1)) 2 x 1) ((hs.tr (kSame.of2 e2)).tr (kuT_same (by decide))) hBd
      refine r_aload_n hC dX1_delete_84 rfl (by first | rfl | exact zisR_rf _) ?_
      refine r_callV hC (c_xlookAll hst hKd) (k_led hKd) rfl q1052 q1054 qs10 q36 q1055 (n := 0) (by decide +kernel) rfl (Nat.le_of_ble_eq_true rfl) (Nat.le_of_ble_eq_true rfl) rfl (Nat.le_of_ble_eq_true rfl) (Nat.le_refl _) (Nat.le_refl _) dX1_delete_85 znx (zrv ?_)
      rw [kH_kH (kSame.of2 (kLa_2 _))]
      refine r_iload_n hC dX1_delete_88 rfl ?_
      exact r_iret hC hE rfl dX1_delete_89 ⟨x, hx, h0, rfl, rfl, rfl⟩
    · have hrr : r < kZ (kDl k x r) 2 := by rw [hs.1 2 (by decide)]; exact e1
      have hres := k_res hKr hrr
      have hb6 := (kDl_B hB x r).2.2.2.2.2.1 r hrr
      have hk3 : kT (kDl k x r) 3 r < kZ k 1 := by rw [← hs.1 1 (by decide)]; exact hb6.1
      have k64 : ∀ y, (if kT (kDl k x r) 4 r = 0 ∧ kT (kDl k x r) 3 r ≠ x then 0 else 1) = y → zW Z (kH A (kDl k x r) h9) 5 80 64 [some (.ref (A 0)), some (.int (nI x)), some (.ref (A (60 + x))), some (.int (kUse k x)), some (.int (nI r)), some (.ref (A (100 + r)))] [.int (nI y), .ref (A (100 + r))] := by
        intro y hy
        refine v_putCl hC hKr (x := y) (host := "AllotmentLedger") hrr (by rw [← hy]; split <;> decide) rfl (by decide +kernel) dX1_delete_64 ?_
        rw [kH_kH (kuT_same (by decide)), ← hy, ← kDl_s]
        refine r_inc4 hC dX1_delete_67 (by first | exact (nI_1 _) | rfl) ?_
        refine r_goto hC dX1_delete_70 (tgt := 14) (by decide) ?_
        exact ih e1 (by omega) _
      refine r_aload_n hC dX1_delete_26 rfl (by first | rfl | exact zisR_rf _) ?_
      refine r_get hC 5 in_X1 (ci := 0) rfl (k_led hKr) (by decide) ⟨rfl, rfl, rfl⟩ q261 rfl dX1_delete_27 ?_
      refine r_iload hC dX1_delete_30 rfl ?_
      refine r_callV hC (c_lget hst _ (A 7) (A 10) (kZ k 2) cc0 r F mc (fr _ _ t1 rfl) (fr _ _ t2 rfl) e1 t3 (by omega) (by rw [t5 r e1]; rfl)) (fr _ _ t1 rfl) rfl q626 q627 q628 q43 q629 (n := 1) (by decide +kernel) rfl (Nat.le_of_ble_eq_true rfl) (Nat.le_of_ble_eq_true rfl) rfl (Nat.le_of_ble_eq_true rfl) (cb' := 5) (sb' := 80) (by omega) (by omega) dX1_delete_32 znx (zri ?_)
      rw [t5 r e1]
      refine r_castY hC hres rfl (nm := "AllotmentLedger$Reservation") q1160 (Or.inr rfl) dX1_delete_35 ?_
      refine r_ast5 hC dX1_delete_38 (by first | rfl | exact zisR_rf _) ?_
      refine r_aload hC dX1_delete_40 rfl (by first | rfl | exact zisR_rf _) ?_
      refine r_aload hC dX1_delete_42 rfl (by first | rfl | exact zisR_rf _) ?_
      refine r_getN hC 2 in_X6 (ci := 4) (ref := "AllotmentLedger$Reservation") (nm := "isClosed") (ds := "Z") (host := "AllotmentLedger") rfl hres (by decide) ⟨rfl, rfl, rfl⟩ (by decide +kernel) rfl dX1_delete_44 ?_
      refine r_if_neN hC dX1_delete_47 (tgt := 59) (by decide) (by omega) (fun e2 => ?_) (fun e2 => ?_)
      · refine r_iconst hC dX1_delete_59 (v := (nI 1)) (by decide) ?_
        refine r_goto hC dX1_delete_60 (tgt := 64) (by decide) ?_
        exact k64 1 (if_neg (fun q => e2 q.1))
      · refine r_aload hC dX1_delete_50 rfl (by first | rfl | exact zisR_rf _) ?_
        refine r_getN hC 0 in_X6 (ci := 4) (ref := "AllotmentLedger$Reservation") (nm := "entry") (ds := "LAllotmentLedger$Entry;") (host := "AllotmentLedger") rfl hres (by decide) ⟨rfl, rfl, rfl⟩ (by decide +kernel) rfl dX1_delete_52 ?_
        refine r_aload_n hC dX1_delete_55 rfl (by first | rfl | exact zisR_rf _) ?_
        refine r_acmp_ne hC dX1_delete_56 (tgt := 63) (by decide) (x := some (A (60 + kT (kDl k x r) 3 r))) (y := some (A (60 + x))) rfl rfl (fun e3 => ?_) (fun e3 => ?_)
        · have hne : kT (kDl k x r) 3 r ≠ x := fun q => e3 (by rw [q])
          refine r_iconst hC dX1_delete_63 (v := (nI 0)) (by decide) ?_
          exact k64 0 (if_pos ⟨e2, hne⟩)
        · have heq : kT (kDl k x r) 3 r = x := by
            have := hK.2.1 _ _ (kni hk3) (kni hx) (Option.some.inj e3)
            omega
          refine r_iconst hC dX1_delete_59 (v := (nI 1)) (by decide) ?_
          refine r_goto hC dX1_delete_60 (tgt := 64) (by decide) ?_
          exact k64 1 (if_neg (fun q => q.2 heq))
  refine r_ast2 hC dX1_delete_5 (by first | rfl | exact zisR_rf _) ?_
  refine r_aload_n hC dX1_delete_6 rfl (by first | rfl | exact zisR_rf _) ?_
  refine r_callV hC (c_uses hst hK x hx) (k_ent hK hx) rfl q1047 q1048 q1049 q67 q1050 (n := 0) (by decide +kernel) rfl (Nat.le_of_ble_eq_true rfl) (Nat.le_of_ble_eq_true rfl) rfl (Nat.le_of_ble_eq_true rfl) (cb' := 5) (sb' := 80) (by omega) (by omega) dX1_delete_7 znx (zri ?_)
  refine r_ist3 hC dX1_delete_10 ?_
  refine r_iconst hC dX1_delete_11 (v := (nI 0)) (by decide) ?_
  refine r_ist4 hC dX1_delete_12 ?_
  have h00 := lp 0 (Nat.zero_le _) none
  rw [show kH A (kDl k x 0) h9 = h9 from kH_id hK] at h00
  exact h00
end X7

