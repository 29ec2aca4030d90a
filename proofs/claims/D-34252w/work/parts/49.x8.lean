/-! THE COMPONENT 8: moveFile, settle, room, the buffer -/
set_option maxRecDepth 100000
theorem kB_T2 {k : kS} (hB : kB k) {t i x : Nat} (h : t = 2 ∧ x < 2 ∨ t = 4 ∧ x < 2 ∨ t = 1 ∧ x < kZ k 0) : kB (kuT k t i x) := by
  obtain ⟨b1, b2, b3, b4, b5, b6, b7⟩ := hB
  refine ⟨b1, b2, b3, b4, fun j hj => ?_, fun r hr => ?_, fun p hp => ?_⟩
  · have := b5 j hj
    refine ⟨?_, ?_, ?_⟩
    · show nup2 _ t i x 0 j < 6
      simp only [nup2]; rw [if_neg (by omega)]; exact this.1
    · show nup2 _ t i x 1 j < kZ k 0
      simp only [nup2]
      split
      · rename_i c
        rcases h with h | h | h
        · omega
        · omega
        · exact h.2
      · exact this.2.1
    · show nup2 _ t i x 2 j < 2
      simp only [nup2]
      split
      · rename_i c
        rcases h with h | h | h
        · exact h.2
        · omega
        · omega
      · exact this.2.2
  · have := b6 r hr
    refine ⟨?_, ?_⟩
    · show nup2 _ t i x 3 r < kZ k 1
      simp only [nup2]; rw [if_neg (by omega)]; exact this.1
    · show nup2 _ t i x 4 r < 2
      simp only [nup2]
      split
      · rename_i c
        rcases h with h | h | h
        · omega
        · exact h.2
        · omega
      · exact this.2
  · have := b7 p hp
    show nup2 _ t i x 5 p ≤ 8
    simp only [nup2]; rw [if_neg (by omega)]; exact this
def kRoom1 (k : kS) (j : Nat) (r : Int32) : Int32 :=
  if kA k j 1 = -1 ∧ kGn k j (kN k).1 = false then r
  else
    let its := if kGn k j (kN k).1 then 0 else (if 0 < kA k j 1 - kA k j 3 then kA k j 1 - kA k j 3 else 0)
    if r = -1 then its else if its < r then its else r
def kRoom (k : kS) (l : List Nat) : Int32 := l.foldl (fun r j => kRoom1 k j r) (-1)
section X8
variable {g : zG} {l : Launch} {A : Nat → Nat} {k : kS} {h : zH}
theorem c_xmoveF (hl : l.stackTraces = false) (hK : kIs g A k h) (hP : ∀ p, p < kZ k 0 → kPc k p) (f p : Int32) : zM g l yX1_moveFile (ws_ yX1_moveFile cX1_moveFile 6 (some .int)) 13 482 13 178 [.ref (A 0), .int f, .int p] h (fun u h' => ∃ x y, x < kZ k 1 ∧ kT k 2 x = 0 ∧ f = nI x ∧ y < kZ k 0 ∧ p = nI y ∧ u = some (.int (nI (kT k 1 x))) ∧ h' = kH A (kMv k x y) h) (fun E h' => E = IOOB ∧ h' = h ∧ (kEo k f && zIn p (kZ k 0)) = false) := by
  refine zM.of (cc := cX1_moveFile) (nL := 6) (ret := (some .int)) (by decide) hl (zcat rfl) (Nat.le_of_ble_eq_true rfl) ?_
  intro Z hg hz hC hE hN
  subst hg
  subst hz
  change zW Z _ _ _ 0 [some _, some _, some _, none, none, none] []
  have hst := hC.2.2.2.2.2.2.2.1
  have hB := hK.2.2.2
  refine r_aload_n hC dX1_moveFile_0 rfl (by first | rfl | exact zisR_rf _) ?_
  refine r_iload_n hC dX1_moveFile_1 rfl ?_
  refine r_callV hC (c_entAt hst hK f) (k_led hK) rfl q1129 q1131 qs11 q36 q1132 (n := 1) (by decide +kernel) rfl (Nat.le_of_ble_eq_true rfl) (Nat.le_of_ble_eq_true rfl) rfl (Nat.le_of_ble_eq_true rfl) (cb' := 11) (sb' := 166) (by omega) (by omega) dX1_moveFile_2 (fun E h' e => by obtain ⟨rfl, rfl, hb⟩ := e; exact r_xout hC hE (fun _ q => by cases q) ⟨rfl, rfl, by rw [show kEo k f = false from hb]; rfl⟩) (fun v9 h9 e9 => ?_)
  obtain ⟨rfl, x, hx, h0, rfl, rfl⟩ := e9
  have hpx := (hB.2.2.2.2.1 x hx).2.1
  have h40 : kZ k 1 ≤ 40 := hB.2.1
  refine r_ast3 hC dX1_moveFile_5 (by first | rfl | exact zisR_rf _) ?_
  refine r_aload_n hC dX1_moveFile_6 rfl (by first | rfl | exact zisR_rf _) ?_
  refine r_iload_n hC dX1_moveFile_7 rfl ?_
  refine r_callV hC (c_prjAt hst hK p) (k_led hK) rfl q958 q960 qs6 q36 q961 (n := 1) (by decide +kernel) rfl (Nat.le_of_ble_eq_true rfl) (Nat.le_of_ble_eq_true rfl) rfl (Nat.le_of_ble_eq_true rfl) (cb' := 10) (sb' := 160) (by omega) (by omega) dX1_moveFile_8 (fun E h' e => by obtain ⟨rfl, rfl, hb⟩ := e; exact r_xout hC hE (fun _ q => by cases q) ⟨rfl, rfl, by rw [kEo_x h40 hx h0, hb]; rfl⟩) (fun v9 h9 e9 => ?_)
  obtain ⟨rfl, y, hy, rfl, rfl⟩ := e9
  refine r_ast4 hC dX1_moveFile_11 (by first | rfl | exact zisR_rf _) ?_
  refine r_aload_n hC dX1_moveFile_13 rfl (by first | rfl | exact zisR_rf _) ?_
  refine r_getN hC 2 in_X5 (ci := 3) (ref := "AllotmentLedger$Entry") (nm := "project") (ds := "LAllotmentLedger$Project;") (host := "AllotmentLedger") rfl (k_ent hK hx) (by decide) ⟨rfl, rfl, rfl⟩ (by decide +kernel) rfl dX1_moveFile_14 ?_
  refine r_getN hC 7 in_X3 (ci := 2) (ref := "AllotmentLedger$Project") (nm := "number") (ds := "I") (host := "AllotmentLedger") rfl (k_prj hK hpx) (by decide) ⟨rfl, rfl, rfl⟩ (by decide +kernel) rfl dX1_moveFile_17 ?_
  refine r_ist5 hC dX1_moveFile_20 ?_
  refine r_aload_n hC dX1_moveFile_22 rfl (by first | rfl | exact zisR_rf _) ?_
  refine r_aload_n hC dX1_moveFile_23 rfl (by first | rfl | exact zisR_rf _) ?_
  refine r_iconst hC dX1_moveFile_24 (v := -1) (by decide) ?_
  refine r_callV hC (c_count hst hK x (-1) hx (hP _ hpx)) (k_led hK) rfl q1038 q1040 qs8 q36 q1041 (n := 2) (by decide +kernel) rfl (Nat.le_of_ble_eq_true rfl) (Nat.le_of_ble_eq_true rfl) rfl (Nat.le_of_ble_eq_true rfl) (cb' := 5) (sb' := 80) (by omega) (by omega) dX1_moveFile_25 znx (zrv ?_)
  have e1 := kCnt_2 k x (-1)
  have hs1 := kSame.of2 e1
  have hB1 := kB.of2 e1 hB
  have hK1 := hK.of2 e1
  have hx1 : x < kZ (kCnt k x (-1)) 1 := by rw [hs1.1 1 (by decide)]; exact hx
  refine r_aload_n hC dX1_moveFile_28 rfl (by first | rfl | exact zisR_rf _) ?_
  refine r_aload hC dX1_moveFile_29 rfl (by first | rfl | exact zisR_rf _) ?_
  refine e_putPrj hC hK1 (host := "AllotmentLedger") hx1 rfl (by decide +kernel) dX1_moveFile_31 ?_
  rw [kH_kH (kuT_same (by decide))]
  have hB2 : kB (kuT (kCnt k x (-1)) 1 x y) := kB_T2 hB1 (Or.inr (Or.inr ⟨rfl, by rw [hs1.1 0 (by decide)]; exact hy⟩))
  have hs2 : kSame k (kuT (kCnt k x (-1)) 1 x y) := hs1.tr (kuT_same (by decide))
  have hK2 := hK.up hs2 hB2
  have hT2 : kT (kuT (kCnt k x (-1)) 1 x y) 1 x = y := by show nup2 _ 1 x y 1 x = y; simp [nup2]
  have hx2 : x < kZ (kuT (kCnt k x (-1)) 1 x y) 1 := hx1
  refine r_aload_n hC dX1_moveFile_34 rfl (by first | rfl | exact zisR_rf _) ?_
  refine r_aload_n hC dX1_moveFile_35 rfl (by first | rfl | exact zisR_rf _) ?_
  refine r_iconst hC dX1_moveFile_36 (v := (nI 1)) (by decide) ?_
  refine r_callV hC (c_count hst hK2 x 1 hx2 (by rw [hT2]; exact (hP _ hy).same hs2)) (k_led hK2) rfl q1038 q1040 qs8 q36 q1041 (n := 2) (by decide +kernel) rfl (Nat.le_of_ble_eq_true rfl) (Nat.le_of_ble_eq_true rfl) rfl (Nat.le_of_ble_eq_true rfl) (cb' := 0) (sb' := 0) (by omega) (by omega) dX1_moveFile_37 znx (zrv ?_)
  have e3 := kCnt_2 (kuT (kCnt k x (-1)) 1 x y) x 1
  rw [kH_kH (kSame.of2 e3)]
  have hK3 := hK.up (hs2.tr (kSame.of2 e3)) (kB.of2 e3 hB2)
  refine r_aload_n hC dX1_moveFile_40 rfl (by first | rfl | exact zisR_rf _) ?_
  refine r_callV hC (c_xlookAll hst hK3) (k_led hK3) rfl q1052 q1054 qs10 q36 q1055 (n := 0) (by decide +kernel) rfl (Nat.le_of_ble_eq_true rfl) (Nat.le_of_ble_eq_true rfl) rfl (Nat.le_of_ble_eq_true rfl) (Nat.le_refl _) (Nat.le_refl _) dX1_moveFile_41 znx (zrv ?_)
  rw [kH_kH (kSame.of2 (kLa_2 _))]
  refine r_iload hC dX1_moveFile_44 rfl ?_
  exact r_iret hC hE rfl dX1_moveFile_46 ⟨x, y, hx, h0, rfl, hy, rfl, rfl, rfl⟩
theorem c_xsettle (hl : l.stackTraces = false) (hK : kIs g A k h) (hP : ∀ p, p < kZ k 0 → kPc k p) (r b : Int32) : zM g l yX1_settle (ws_ yX1_settle cX1_settle 4 (some .int)) 14 505 13 178 [.ref (A 0), .int r, .int b] h (fun u h' => ∃ x, x < kZ k 2 ∧ kT k 4 x = 0 ∧ r = nI x ∧ kIn b 0 (kI k 2 x) = true ∧ u = some (.int (kI (kStl k x b) 0 (kT k 3 x))) ∧ h' = kH A (kStl k x b) h) (fun E h' => h' = h ∧ (E = IOOB ∧ (zIn r (kZ k 2) && kT k 4 r.toNatClampNeg == 0) = false ∨ E = IAE ∧ ∃ x, x < kZ k 2 ∧ kT k 4 x = 0 ∧ r = nI x ∧ kIn b 0 (kI k 2 x) = false)) := by
  refine zM.of (cc := cX1_settle) (nL := 4) (ret := (some .int)) (by decide) hl (zcat rfl) (Nat.le_of_ble_eq_true rfl) ?_
  intro Z hg hz hC hE hN
  subst hg
  subst hz
  change zW Z _ _ _ 0 [some _, some _, some _, none] []
  have hst := hC.2.2.2.2.2.2.2.1
  have hB := hK.2.2.2
  obtain ⟨mc, cc0, F, t1, t2, t3, t4, t5, -⟩ := hK.2.2.1.2.2.2.2.2.2.2.1
  have t5 : ∀ x, x < kZ k 2 → F x = .ref (A (100 + x)) := t5
  have h30 : kZ k 2 ≤ 30 := hB.2.2.1
  have h40 : kZ k 1 ≤ 40 := hB.2.1
  refine r_iload_n hC dX1_settle_0 rfl ?_
  refine r_iconst hC dX1_settle_1 (v := (nI 0)) (by decide) ?_
  refine r_aload_n hC dX1_settle_2 rfl (by first | rfl | exact zisR_rf _) ?_
  refine r_get hC 5 in_X1 (ci := 0) rfl (k_led hK) (by decide) ⟨rfl, rfl, rfl⟩ q261 rfl dX1_settle_3 ?_
  refine r_callV hC (c_lsize hst _ (A 7) (A 10) (kZ k 2) mc t1) t1 rfl q622 q623 q624 q43 q625 (n := 0) (by decide +kernel) rfl (Nat.le_of_ble_eq_true rfl) (Nat.le_of_ble_eq_true rfl) rfl (Nat.le_of_ble_eq_true rfl) (cb' := 13) (sb' := 178) (by omega) (by omega) dX1_settle_6 znx (zri ?_)
  refine r_iconst hC dX1_settle_9 (v := (nI 1)) (by decide) ?_
  refine r_isub hC dX1_settle_10 ?_
  refine r_callS hC (c_xin hst r (nI 0) (nI (kZ k 2) - nI 1)) q962 q963 q36 q964 (n := 3) (by decide +kernel) rfl (Nat.le_of_ble_eq_true rfl) (Nat.le_of_ble_eq_true rfl) rfl (Nat.le_of_ble_eq_true rfl) (cb' := 13) (sb' := 178) (by omega) (by omega) dX1_settle_11 znx (zri ?_)
  rw [zIn_in (by omega)]
  refine r_callS hC (c_rqI hst (zIn r (kZ k 2))) q965 q966 q36 q967 (n := 1) (by decide +kernel) rfl (Nat.le_of_ble_eq_true rfl) (Nat.le_of_ble_eq_true rfl) rfl (Nat.le_of_ble_eq_true rfl) (cb' := 12) (sb' := 172) (by omega) (by omega) dX1_settle_14 (fun E h' e => by obtain ⟨rfl, rfl, hb⟩ := e; exact r_xout hC hE (fun _ q => by cases q) ⟨rfl, Or.inl ⟨rfl, by rw [hb]; rfl⟩⟩) (fun v9 h9 e9 => ?_)
  obtain ⟨rfl, rfl, hin⟩ := e9
  obtain ⟨x, hx, rfl⟩ := zIn_of (by omega) hin
  have hxc : (nI x).toNatClampNeg = x := nI_clamp (by omega)
  have hbx := hB.2.2.2.2.2.1 x hx
  have hpx := (hB.2.2.2.2.1 _ hbx.1).2.1
  have hres := k_res hK hx
  refine r_aload_n hC dX1_settle_17 rfl (by first | rfl | exact zisR_rf _) ?_
  refine r_get hC 5 in_X1 (ci := 0) rfl (k_led hK) (by decide) ⟨rfl, rfl, rfl⟩ q261 rfl dX1_settle_18 ?_
  refine r_iload_n hC dX1_settle_21 rfl ?_
  refine r_callV hC (c_lget hst _ (A 7) (A 10) (kZ k 2) cc0 x F mc t1 t2 hx t3 (by omega) (by rw [t5 x hx]; rfl)) t1 rfl q626 q627 q628 q43 q629 (n := 1) (by decide +kernel) rfl (Nat.le_of_ble_eq_true rfl) (Nat.le_of_ble_eq_true rfl) rfl (Nat.le_of_ble_eq_true rfl) (cb' := 12) (sb' := 172) (by omega) (by omega) dX1_settle_22 znx (zri ?_)
  rw [t5 x hx]
  refine r_castY hC hres rfl (nm := "AllotmentLedger$Reservation") q1160 (Or.inr rfl) dX1_settle_25 ?_
  have k41 : zW Z h9 12 172 41 [some (.ref (A 0)), some (.int (nI x)), some (.int b), some (.ref (A (100 + x)))] [.int (nB (kT k 4 x == 0))] := by
    refine r_callS hC (c_rqI hst (kT k 4 x == 0)) q965 q966 q36 q967 (n := 1) (by decide +kernel) rfl (Nat.le_of_ble_eq_true rfl) (Nat.le_of_ble_eq_true rfl) rfl (Nat.le_of_ble_eq_true rfl) (cb' := 11) (sb' := 166) (by omega) (by omega) dX1_settle_41 (fun E h' e => by obtain ⟨rfl, rfl, hb⟩ := e; exact r_xout hC hE (fun _ q => by cases q) ⟨rfl, Or.inl ⟨rfl, by rw [hxc, hb, Bool.and_false]⟩⟩) (fun v9 h9 e9 => ?_)
    obtain ⟨rfl, rfl, hz⟩ := e9
    have hz' : kT k 4 x = 0 := by simpa using hz
    refine r_iload_n hC dX1_settle_44 rfl ?_
    refine r_iconst hC dX1_settle_45 (v := (nI 0)) (by decide) ?_
    refine r_aload_n hC dX1_settle_46 rfl (by first | rfl | exact zisR_rf _) ?_
    refine r_getN hC 1 in_X6 (ci := 4) (ref := "AllotmentLedger$Reservation") (nm := "blocks") (ds := "I") (host := "AllotmentLedger") rfl hres (by decide) ⟨rfl, rfl, rfl⟩ (by decide +kernel) rfl dX1_settle_47 ?_
    refine r_callS hC (c_xin hst b 0 (kI k 2 x)) q962 q963 q36 q964 (n := 3) (by decide +kernel) rfl (Nat.le_of_ble_eq_true rfl) (Nat.le_of_ble_eq_true rfl) rfl (Nat.le_of_ble_eq_true rfl) (cb' := 11) (sb' := 166) (by omega) (by omega) dX1_settle_50 znx (zri ?_)
    refine r_callS hC (c_rqA hst (kIn b 0 (kI k 2 x))) q849 q850 q36 q851 (n := 1) (by decide +kernel) rfl (Nat.le_of_ble_eq_true rfl) (Nat.le_of_ble_eq_true rfl) rfl (Nat.le_of_ble_eq_true rfl) (cb' := 10) (sb' := 160) (by omega) (by omega) dX1_settle_53 (fun E h' e => by obtain ⟨rfl, rfl, hb⟩ := e; exact r_xout hC hE (fun _ q => by cases q) ⟨rfl, Or.inr ⟨rfl, x, hx, hz', rfl, hb⟩⟩) (fun v9 h9 e9 => ?_)
    obtain ⟨rfl, rfl, hin2⟩ := e9
    refine r_aload_n hC dX1_settle_56 rfl (by first | rfl | exact zisR_rf _) ?_
    refine r_iconst hC dX1_settle_57 (v := (nI 1)) (by decide) ?_
    refine v_putCl hC hK (x := 1) (host := "AllotmentLedger") hx (by decide) rfl (by decide +kernel) dX1_settle_58 ?_
    have hs1 : kSame k (kuT k 4 x 1) := kuT_same (by decide)
    have hB1 : kB (kuT k 4 x 1) := kB_T2 hB (Or.inr (Or.inl ⟨rfl, by decide⟩))
    have hK1 := hK.up hs1 hB1
    have hres1 := k_res hK1 (r := x) hx
    have e3 : kT (kuT k 4 x 1) 3 x = kT k 3 x := by show nup2 k.2.2.1 4 x 1 3 x = _; simp only [nup2]; rw [if_neg (by omega)]
    have e1t : kT (kuT k 4 x 1) 1 (kT k 3 x) = kT k 1 (kT k 3 x) := by show nup2 k.2.2.1 4 x 1 1 (kT k 3 x) = _; simp only [nup2]; rw [if_neg (by omega)]
    rw [e3] at hres1
    refine r_aload_n hC dX1_settle_61 rfl (by first | rfl | exact zisR_rf _) ?_
    refine r_aload_n hC dX1_settle_62 rfl (by first | rfl | exact zisR_rf _) ?_
    refine r_getN hC 0 in_X6 (ci := 4) (ref := "AllotmentLedger$Reservation") (nm := "entry") (ds := "LAllotmentLedger$Entry;") (host := "AllotmentLedger") rfl hres1 (by decide) ⟨rfl, rfl, rfl⟩ (by decide +kernel) rfl dX1_settle_63 ?_
    refine r_iload_n hC dX1_settle_66 rfl ?_
    refine r_aload_n hC dX1_settle_67 rfl (by first | rfl | exact zisR_rf _) ?_
    refine r_getN hC 1 in_X6 (ci := 4) (ref := "AllotmentLedger$Reservation") (nm := "blocks") (ds := "I") (host := "AllotmentLedger") rfl hres1 (by decide) ⟨rfl, rfl, rfl⟩ (by decide +kernel) rfl dX1_settle_68 ?_
    refine r_ineg hC dX1_settle_71 ?_
    refine r_callV hC (c_change hst hK1 (kT k 3 x) b (-(kI k 2 x)) hbx.1 (by rw [e1t]; exact (hP _ hpx).same hs1)) (k_led hK1) rfl q1149 q1151 qs13 q36 q1152 (n := 3) (by decide +kernel) rfl (Nat.le_of_ble_eq_true rfl) (Nat.le_of_ble_eq_true rfl) rfl (Nat.le_of_ble_eq_true rfl) (cb' := 0) (sb' := 0) (by omega) (by omega) dX1_settle_72 znx (zrv ?_)
    have hs2 : kSame (kuT k 4 x 1) (kChg (kuT k 4 x 1) (kT k 3 x) b (-(kI k 2 x))) := kChg_same _ _ _ _
    rw [kH_kH hs2]
    have hK2 := hK.up (hs1.tr hs2) (kChg_B hB1 (kT k 3 x) b (-(kI k 2 x)))
    have hx2 : x < kZ (kChg (kuT k 4 x 1) (kT k 3 x) b (-(kI k 2 x))) 2 := by rw [hs2.1 2 (by decide)]; exact hx
    have hi2 : kT k 3 x < kZ (kChg (kuT k 4 x 1) (kT k 3 x) b (-(kI k 2 x))) 1 := by rw [hs2.1 1 (by decide)]; exact hbx.1
    have hres2 := k_res hK2 hx2
    have e4 : kT (kChg (kuT k 4 x 1) (kT k 3 x) b (-(kI k 2 x))) 3 x = kT k 3 x := by
      have := congrArg (·.2.1) (kChg_2 (kuT k 4 x 1) (kT k 3 x) b (-(kI k 2 x)))
      show kT (kChg (kuT k 4 x 1) (kT k 3 x) b (-(kI k 2 x))) 3 x = _
      rw [show kT (kChg (kuT k 4 x 1) (kT k 3 x) b (-(kI k 2 x))) = kT (kCh1 (kuT k 4 x 1) (kT k 3 x) b (-(kI k 2 x))) from this]
      exact e3
    rw [e4] at hres2
    refine r_aload_n hC dX1_settle_75 rfl (by first | rfl | exact zisR_rf _) ?_
    refine r_getN hC 0 in_X6 (ci := 4) (ref := "AllotmentLedger$Reservation") (nm := "entry") (ds := "LAllotmentLedger$Entry;") (host := "AllotmentLedger") rfl hres2 (by decide) ⟨rfl, rfl, rfl⟩ (by decide +kernel) rfl dX1_settle_76 ?_
    refine r_getN hC 3 in_X5 (ci := 3) (ref := "AllotmentLedger$Entry") (nm := "blocks") (ds := "I") (host := "AllotmentLedger") rfl (k_ent hK2 hi2) (by decide) ⟨rfl, rfl, rfl⟩ (by decide +kernel) rfl dX1_settle_79 ?_
    exact r_iret hC hE rfl dX1_settle_82 ⟨x, hx, hz', rfl, hin2, rfl, rfl⟩
  have kb := zbool hC dX1_settle_36 dX1_settle_37 dX1_settle_40 rfl rfl (by decide) k41
  refine r_ast3 hC dX1_settle_28 (by first | rfl | exact zisR_rf _) ?_
  refine r_aload_n hC dX1_settle_29 rfl (by first | rfl | exact zisR_rf _) ?_
  refine r_getN hC 2 in_X6 (ci := 4) (ref := "AllotmentLedger$Reservation") (nm := "isClosed") (ds := "Z") (host := "AllotmentLedger") rfl hres (by decide) ⟨rfl, rfl, rfl⟩ (by decide +kernel) rfl dX1_settle_30 ?_
  refine r_if_neN hC dX1_settle_33 (tgt := 40) (by decide) (by omega) (fun e3 => kb.2 ?_) (fun e3 => kb.1 ?_)
  · exact beq_eq_false_iff_ne.mpr e3
  · exact beq_iff_eq.mpr e3
theorem c_xroom (hl : l.stackTraces = false) (hK : kIs g A k h) (hP : ∀ p, p < kZ k 0 → kPc k p) (f : Int32) : zM g l yX1_room (ws_ yX1_room cX1_room 8 (some .int)) 12 457 7 92 [.ref (A 0), .int f] h (fun u h' => ∃ x, x < kZ k 1 ∧ kT k 2 x = 0 ∧ f = nI x ∧ u = some (.int (kRoom k (kAc k (kT k 0 x) (kT k 1 x)))) ∧ h' = h) (fun E h' => E = IOOB ∧ h' = h ∧ kEo k f = false) := by
  refine zM.of (cc := cX1_room) (nL := 8) (ret := (some .int)) (by decide) hl (zcat rfl) (Nat.le_of_ble_eq_true rfl) ?_
  intro Z hg hz hC hE hN
  subst hg
  subst hz
  change zW Z _ _ _ 0 [some _, some _, none, none, none, none, none, none] []
  have hst := hC.2.2.2.2.2.2.2.1
  have hB := hK.2.2.2
  refine r_aload_n hC dX1_room_0 rfl (by first | rfl | exact zisR_rf _) ?_
  refine r_iload_n hC dX1_room_1 rfl ?_
  refine r_callV hC (c_entAt hst hK f) (k_led hK) rfl q1129 q1131 qs11 q36 q1132 (n := 1) (by decide +kernel) rfl (Nat.le_of_ble_eq_true rfl) (Nat.le_of_ble_eq_true rfl) rfl (Nat.le_of_ble_eq_true rfl) (cb' := 5) (sb' := 80) (by omega) (by omega) dX1_room_2 (fun E h' e => by obtain ⟨rfl, rfl, hb⟩ := e; exact r_xout hC hE (fun _ q => by cases q) ⟨rfl, rfl, hb⟩) (fun v9 h9 e9 => ?_)
  obtain ⟨rfl, x, hx, h0, rfl, rfl⟩ := e9
  have he := hB.2.2.2.2.1 x hx
  refine r_ast2 hC dX1_room_5 (by first | rfl | exact zisR_rf _) ?_
  refine r_aload_n hC dX1_room_6 rfl (by first | rfl | exact zisR_rf _) ?_
  refine r_aload_n hC dX1_room_7 rfl (by first | rfl | exact zisR_rf _) ?_
  refine r_getN hC 1 in_X5 (ci := 3) (ref := "AllotmentLedger$Entry") (nm := "owner") (ds := "I") (host := "AllotmentLedger") rfl (k_ent hK hx) (by decide) ⟨rfl, rfl, rfl⟩ (by decide +kernel) rfl dX1_room_8 ?_
  refine r_aload_n hC dX1_room_11 rfl (by first | rfl | exact zisR_rf _) ?_
  refine r_getN hC 2 in_X5 (ci := 3) (ref := "AllotmentLedger$Entry") (nm := "project") (ds := "LAllotmentLedger$Project;") (host := "AllotmentLedger") rfl (k_ent hK hx) (by decide) ⟨rfl, rfl, rfl⟩ (by decide +kernel) rfl dX1_room_12 ?_
  refine r_callV hC (c_acOf hst hK (kT k 0 x) (kT k 1 x) he.1 he.2.1 (hP _ he.2.1)) (k_led hK) rfl q1042 q1044 qs9 q36 q1045 (n := 2) (by decide +kernel) rfl (Nat.le_of_ble_eq_true rfl) (Nat.le_of_ble_eq_true rfl) rfl (Nat.le_of_ble_eq_true rfl) (cb' := 0) (sb' := 0) (by omega) (by omega) dX1_room_15 znx (fun v9 h9 e9 => ?_)
  obtain ⟨b, c, rfl, hc, T⟩ := e9
  have hK1 := hK.le T.1
  generalize hls : kAc k (kT k 0 x) (kT k 1 x) = ls at T hE
  have hmem : ∀ (t j : Nat), ls[t]? = some j → j < 9 + kZ k 0 := fun t j q => kAc_lt he.1 hB.1.1 (by rw [hls]; exact List.mem_of_getElem? q)
  have hlen : (ls.map (fun j => A (20 + j))).length = ls.length := List.length_map _
  obtain ⟨mc, e, F, t1, t2, t3, t4⟩ := T.get
  rw [hlen] at t1 t3
  have lp : ∀ t, t ≤ ls.length → ∀ x6 x7, zW Z h9 0 0 25 [some (.ref (A 0)), some (.int (nI x)), some (.ref (A (60 + x))), some (.ref b), some (.int (kRoom k (ls.take t))), some (.int (nI t)), x6, x7] [] := by
    refine zloop ls.length (fun t ih ht x6 x7 => ?_)
    refine r_iload hC dX1_room_25 rfl ?_
    refine r_aload_n hC dX1_room_27 rfl (by first | rfl | exact zisR_rf _) ?_
    refine r_callV hC (c_lsize hst _ b e ls.length mc t1) t1 rfl q622 q623 q624 q43 q625 (n := 0) (by decide +kernel) rfl (Nat.le_of_ble_eq_true rfl) (Nat.le_of_ble_eq_true rfl) rfl (Nat.le_of_ble_eq_true rfl) (Nat.le_refl _) (Nat.le_refl _) dX1_room_28 znx (zri ?_)
    refine r_icmp_geN hC dX1_room_31 (tgt := 125) (by decide) (by omega) (by omega) (fun e1 => ?_) (fun e1 => ?_)
    · obtain rfl : t = ls.length := by omega
      rw [List.take_length]
      refine zW.to T.1 (Nat.le_refl _) (Nat.le_refl _) ?_
      refine r_iload hC dX1_room_125 rfl ?_
      exact r_iret hC hE rfl dX1_room_127 ⟨x, hx, h0, rfl, by rw [hls], rfl⟩
    · obtain ⟨j, hj⟩ : ∃ j, ls[t]? = some j := ⟨_, List.getElem?_eq_getElem e1⟩
      have hjm := hmem t j hj
      have hF : F t = .ref (A (20 + j)) := t4 t _ (by rw [List.getElem?_map, hj]; rfl)
      have hnext : kRoom k (ls.take (t + 1)) = kRoom1 k j (kRoom k (ls.take t)) := by
        unfold kRoom
        rw [List.take_add_one, hj]
        simp only [Option.toList_some]
        rw [List.foldl_append]; rfl
      generalize kRoom k (ls.take t) = rm at hnext
      have k119 : ∀ v x7', kRoom1 k j rm = v → zW Z h9 0 0 119 [some (.ref (A 0)), some (.int (nI x)), some (.ref (A (60 + x))), some (.ref b), some (.int v), some (.int (nI t)), some (.ref (A (20 + j))), x7'] [] := by
        intro v x7' hv
        rw [← hv, ← hnext]
        refine r_inc5 hC dX1_room_119 (by first | exact (nI_1 _) | rfl) ?_
        refine r_goto hC dX1_room_122 (tgt := 25) (by decide) ?_
        exact ih e1 (by omega) _ _
      have k97 : ∀ its, (¬ (kA k j 1 = -1 ∧ kGn k j (kN k).1 = false)) → (if kGn k j (kN k).1 then 0 else (if 0 < kA k j 1 - kA k j 3 then kA k j 1 - kA k j 3 else 0)) = its → zW Z h9 0 0 97 [some (.ref (A 0)), some (.int (nI x)), some (.ref (A (60 + x))), some (.ref b), some (.int rm), some (.int (nI t)), some (.ref (A (20 + j))), x7] [.int its] := by
        intro its hno hits
        have hv : kRoom1 k j rm = if rm = -1 then its else if its < rm then its else rm := by
          unfold kRoom1; rw [if_neg hno, ← hits]
        refine r_ist7 hC dX1_room_97 ?_
        refine r_iload hC dX1_room_99 rfl ?_
        refine r_iconst hC dX1_room_101 (v := -1) (by decide) ?_
        refine r_icmp_ne hC dX1_room_102 (tgt := 110) (by decide) (fun e2 => ?_) (fun e2 => ?_)
        · have e2' : ¬ rm = -1 := e2
          rw [if_neg e2'] at hv
          refine r_iload hC dX1_room_110 rfl ?_
          refine r_iload hC dX1_room_112 rfl ?_
          refine r_min hC q1255 q249 q47 q250 (Nat.le_of_ble_eq_true rfl) (Nat.le_of_ble_eq_true rfl) (Nat.le_of_ble_eq_true rfl) dX1_room_114 ?_
          refine r_ist4 hC dX1_room_117 ?_
          exact k119 _ _ hv
        · have e2' : rm = -1 := e2
          rw [if_pos e2'] at hv
          refine r_iload hC dX1_room_105 rfl ?_
          refine r_goto hC dX1_room_107 (tgt := 117) (by decide) ?_
          refine r_ist4 hC dX1_room_117 ?_
          exact k119 _ _ hv
      have k66 : (¬ (kA k j 1 = -1 ∧ kGn k j (kN k).1 = false)) → zW Z h9 0 0 66 [some (.ref (A 0)), some (.int (nI x)), some (.ref (A (60 + x))), some (.ref b), some (.int rm), some (.int (nI t)), some (.ref (A (20 + j))), x7] [] := by
        intro hno
        refine r_aload hC dX1_room_66 rfl (by first | rfl | exact zisR_rf _) ?_
        refine r_aload_n hC dX1_room_68 rfl (by first | rfl | exact zisR_rf _) ?_
        refine r_get hC 6 in_X1 (ci := 0) rfl (k_led hK1) (by decide) ⟨rfl, rfl, rfl⟩ q262 rfl dX1_room_69 ?_
        refine r_callA hC (c_aGone hst hK1 j (kN k).1 hjm) (k_sel hK1 hjm q1145 q1147) q1254 q1144 q44 q1148 (n := 1) (by decide +kernel) rfl (Nat.le_of_ble_eq_true rfl) (Nat.le_of_ble_eq_true rfl) rfl (Nat.le_of_ble_eq_true rfl) (Nat.le_refl _) (Nat.le_refl _) dX1_room_72 znx (zri ?_)
        refine r_if_eqB hC dX1_room_75 (tgt := 82) (by decide) (fun e2 => ?_) (fun e2 => ?_)
        · refine r_iconst hC dX1_room_82 (v := (nI 0)) (by decide) ?_
          refine r_aload hC dX1_room_83 rfl (by first | rfl | exact zisR_rf _) ?_
          refine a_getN hC hK1 1 (host := "AllotmentLedger") hjm (by decide) rfl rfl (by decide +kernel) dX1_room_85 ?_
          refine r_aload hC dX1_room_88 rfl (by first | rfl | exact zisR_rf _) ?_
          refine a_getN hC hK1 3 (host := "AllotmentLedger") hjm (by decide) rfl rfl (by decide +kernel) dX1_room_90 ?_
          refine r_isub hC dX1_room_93 ?_
          refine r_max hC q1246 q214 q47 q215 (Nat.le_of_ble_eq_true rfl) (Nat.le_of_ble_eq_true rfl) (Nat.le_of_ble_eq_true rfl) dX1_room_94 ?_
          exact k97 _ hno (by rw [e2]; rfl)
        · refine r_iconst hC dX1_room_78 (v := (nI 0)) (by decide) ?_
          refine r_goto hC dX1_room_79 (tgt := 97) (by decide) ?_
          exact k97 _ hno (by rw [e2]; rfl)
      have hcast : ∀ kk : zW Z h9 0 0 43 [some (.ref (A 0)), some (.int (nI x)), some (.ref (A (60 + x))), some (.ref b), some (.int rm), some (.int (nI t)), x6, x7] [.ref (A (20 + j))], zW Z h9 0 0 40 [some (.ref (A 0)), some (.int (nI x)), some (.ref (A (60 + x))), some (.ref b), some (.int rm), some (.int (nI t)), x6, x7] [.ref (A (20 + j))] := fun kk => by
        rcases k_acc hK1 hjm with ⟨cj, ea⟩ | ⟨cj, ea⟩
        · exact r_castY hC ea rfl (nm := "AllotmentLedger$Account") q110 (Or.inr rfl) dX1_room_40 kk
        · exact r_castY hC ea rfl (nm := "AllotmentLedger$Account") q110 (Or.inl (by decide +kernel)) dX1_room_40 kk
      refine r_aload_n hC dX1_room_34 rfl (by first | rfl | exact zisR_rf _) ?_
      refine r_iload hC dX1_room_35 rfl ?_
      refine r_callV hC (c_lget hst _ b e ls.length c t F mc t1 t2 e1 t3 (by omega) (by rw [hF]; rfl)) t1 rfl q626 q627 q628 q43 q629 (n := 1) (by decide +kernel) rfl (Nat.le_of_ble_eq_true rfl) (Nat.le_of_ble_eq_true rfl) rfl (Nat.le_of_ble_eq_true rfl) (Nat.le_refl _) (Nat.le_refl _) dX1_room_37 znx (zri ?_)
      rw [hF]
      refine hcast ?_
      refine r_ast6 hC dX1_room_43 (by first | rfl | exact zisR_rf _) ?_
      refine r_aload hC dX1_room_45 rfl (by first | rfl | exact zisR_rf _) ?_
      refine a_getN hC hK1 1 (host := "AllotmentLedger") hjm (by decide) rfl rfl (by decide +kernel) dX1_room_47 ?_
      refine r_iconst hC dX1_room_50 (v := -1) (by decide) ?_
      refine r_icmp_ne hC dX1_room_51 (tgt := 66) (by decide) (fun e2 => k66 (fun q => e2 q.1)) (fun e2 => ?_)
      have e2' : kA k j 1 = -1 := e2
      refine r_aload hC dX1_room_54 rfl (by first | rfl | exact zisR_rf _) ?_
      refine r_aload_n hC dX1_room_56 rfl (by first | rfl | exact zisR_rf _) ?_
      refine r_get hC 6 in_X1 (ci := 0) rfl (k_led hK1) (by decide) ⟨rfl, rfl, rfl⟩ q262 rfl dX1_room_57 ?_
      refine r_callA hC (c_aGone hst hK1 j (kN k).1 hjm) (k_sel hK1 hjm q1145 q1147) q1254 q1144 q44 q1148 (n := 1) (by decide +kernel) rfl (Nat.le_of_ble_eq_true rfl) (Nat.le_of_ble_eq_true rfl) rfl (Nat.le_of_ble_eq_true rfl) (Nat.le_refl _) (Nat.le_refl _) dX1_room_60 znx (zri ?_)
      refine r_if_eqB hC dX1_room_63 (tgt := 119) (by decide) (fun e3 => ?_) (fun e3 => ?_)
      · exact k119 _ _ (if_pos ⟨e2', e3⟩)
      · exact k66 (fun q => by rw [e3] at q; exact absurd q.2 (by decide))
  refine r_ast3 hC dX1_room_18 (by first | rfl | exact zisR_rf _) ?_
  refine r_iconst hC dX1_room_19 (v := -1) (by decide) ?_
  refine r_ist4 hC dX1_room_20 ?_
  refine r_iconst hC dX1_room_22 (v := (nI 0)) (by decide) ?_
  refine r_ist5 hC dX1_room_23 ?_
  exact lp 0 (Nat.zero_le _) none none
end X8

