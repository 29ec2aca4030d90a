/-! JDK 6: mismatch, contentEquals, startsWith -/
set_option maxRecDepth 100000
def zMi (h : zH) (len : Nat) (w1 w2 : Nat → Nat) : Option Value → zH → Prop := fun u h' => h' = h ∧ ∃ r : Int32, u = some (.int r) ∧ (r < 0 ↔ zAll (fun j => w1 j == w2 j) len = true)
theorem zMi_n {len i : Nat} {w1 w2 : Nat → Nat} (hi : i < len) (hl : len < 1000) (hne : w1 i ≠ w2 i) : (nI i < 0 ↔ zAll (fun j => w1 j == w2 j) len = true) := by
  constructor
  · intro q; exact absurd q (nI_pos (by omega))
  · intro q
    have := zAll_iff.mp q i hi
    simp at this
    exact absurd this hne
theorem zxor1 : (-1 : Int32) ^^^ (-1) = 0 := by decide
theorem r_ixor {Z : zZ} {cc : ByteArray} {ret : Option FieldType} {own : String} {hh : List (Nat × Nat × Nat × Nat)} {fr lo : Nat} {h : zH} {cb sb pc : Nat} {L : List (Option Value)} {rest : List Value} (hC : zC Z cc ret own hh fr lo) {x y : Int32} (d : decode cc pc = .ok (.ixor, 1)) (k : zW Z h cb sb (pc + 1) L (.int (x ^^^ y) :: rest)) : zW Z h cb sb pc L (.int y :: .int x :: rest) := zlift (fun _ _ _ _ _ w => lv_ixor hC.1 hC.2.1 d w) k
section JD6
variable {g : zG} {l : Launch}
theorem c_mis (hl : l.stackTraces = false) (h : zH) (hS : zSt g h) (a b n1 n2 len : Nat) (f1 f2 : Nat → Value) (w1 w2 : Nat → Nat) (ha : h a = some (.inl (4, n1, f1))) (hb : h b = some (.inl (4, n2, f2))) (hw1 : zBy f1 w1 n1) (hw2 : zBy f2 w2 n2) (hn1 : len ≤ n1) (hn2 : len ≤ n2) (hlen : len ≤ 8) (h1 : n1 < 1000) (h2 : n2 < 1000) : zM g l yJ7_mismatch (ws_ yJ7_mismatch cJ7_mismatch 4 (some .int)) 7 338 0 0 [.ref a, .ref b, .int (nI len)] h (zMi h len w1 w2) zNx := by
  refine zM.of (cc := cJ7_mismatch) (nL := 4) (ret := (some .int)) (by decide) hl (zcat rfl) (Nat.le_of_ble_eq_true rfl) ?_
  intro Z hg hz hC hE hN
  subst hg
  subst hz
  change zW Z _ _ _ 0 [some _, some _, some _, none] []
  have hst := hC.2.2.2.2.2.2.2.1
  have lp : ∀ i, i ≤ len → zAll (fun j => w1 j == w2 j) i = true → zW Z h 0 0 49 [some (.ref a), some (.ref b), some (.int (nI len)), some (.int (nI i))] [] := by
    refine zloop len (fun i ih hi hall => ?_)
    refine r_iload_n hC dJ7_mismatch_49 rfl ?_
    refine r_iload_n hC dJ7_mismatch_50 rfl ?_
    first | refine r_icmp_geN hC dJ7_mismatch_51 (tgt := 71) (by decide) (by first | omega | exact hB.1 _ | exact hB.2 _ _) (by first | omega | exact hB.1 _ | exact hB.2 _ _) (fun e1 => ?_) (fun e1 => ?_) | refine r_icmp_ge hC dJ7_mismatch_51 (tgt := 71) (by decide) (fun e1 => ?_) (fun e1 => ?_)
    · obtain rfl : i = len := by omega
      refine r_iconst hC dJ7_mismatch_71 (v := (-1)) (by decide) ?_
      exact r_iret hC hE rfl dJ7_mismatch_72 ⟨rfl, -1, rfl, by rw [hall]; decide⟩
    · refine r_aload_n hC dJ7_mismatch_54 rfl (by first | rfl | exact zisR_rf _) ?_
      refine r_iload_n hC dJ7_mismatch_55 rfl ?_
      refine r_ald hC 4 ha (vp_in_nI (by omega : i < n1) (by omega)) (v := .int (nI (w1 i))) (by rw [nI_clamp (by omega)]; exact (hw1 i (by omega)).2) dJ7_mismatch_56 (by simp) ?_
      refine r_aload_n hC dJ7_mismatch_57 rfl (by first | rfl | exact zisR_rf _) ?_
      refine r_iload_n hC dJ7_mismatch_58 rfl ?_
      refine r_ald hC 4 hb (vp_in_nI (by omega : i < n2) (by omega)) (v := .int (nI (w2 i))) (by rw [nI_clamp (by omega)]; exact (hw2 i (by omega)).2) dJ7_mismatch_59 (by simp) ?_
      have b1 := (hw1 i (by omega)).1
      have b2 := (hw2 i (by omega)).1
      refine r_icmp_eqN hC dJ7_mismatch_60 (tgt := 65) (by decide) (by omega) (by omega) (fun e2 => ?_) (fun e2 => ?_)
      · refine r_inc3 hC dJ7_mismatch_65 (by first | exact (nI_1 _) | rfl) ?_
        refine r_goto hC dJ7_mismatch_68 (tgt := 49) (by decide) ?_
        exact ih e1 (by omega) (by simp [zAll, hall, e2])
      · skip
        refine r_iload_n hC dJ7_mismatch_63 rfl ?_
        exact r_iret hC hE rfl dJ7_mismatch_64 ⟨rfl, nI i, rfl, zMi_n e1 (by omega) e2⟩
  refine r_iconst hC dJ7_mismatch_0 (v := (nI 0)) (by decide) ?_
  refine r_ist3 hC dJ7_mismatch_1 ?_
  refine r_iload_n hC dJ7_mismatch_2 rfl ?_
  refine r_bipush hC dJ7_mismatch_3 (v := (nI 7)) (by decide) ?_
  refine r_icmp_leN hC dJ7_mismatch_5 (tgt := 49) (by decide) (by omega) (by decide) (fun e => ?_) (fun e => ?_)
  · exact lp 0 (by omega) rfl
  · obtain rfl : len = 8 := by omega
    refine r_aload_n hC dJ7_mismatch_8 rfl (by first | rfl | exact zisR_rf _) ?_
    refine r_iconst hC dJ7_mismatch_9 (v := (nI 0)) (by decide) ?_
    refine r_ald hC 4 ha (i := nI 0) (vp_in_nI (by omega : 0 < n1) (by omega)) (v := .int (nI (w1 0))) (by rw [nI_clamp (by omega)]; exact (hw1 0 (by omega)).2) dJ7_mismatch_10 (by simp) ?_
    refine r_aload_n hC dJ7_mismatch_11 rfl (by first | rfl | exact zisR_rf _) ?_
    refine r_iconst hC dJ7_mismatch_12 (v := (nI 0)) (by decide) ?_
    refine r_ald hC 4 hb (i := nI 0) (vp_in_nI (by omega : 0 < n2) (by omega)) (v := .int (nI (w2 0))) (by rw [nI_clamp (by omega)]; exact (hw2 0 (by omega)).2) dJ7_mismatch_13 (by simp) ?_
    have b1 := (hw1 0 (by omega)).1
    have b2 := (hw2 0 (by omega)).1
    refine r_icmp_eqN hC dJ7_mismatch_14 (tgt := 19) (by decide) (by omega) (by omega) (fun e2 => ?_) (fun e2 => ?_)
    · refine r_aload_n hC dJ7_mismatch_19 rfl (by first | rfl | exact zisR_rf _) ?_
      refine r_gets hC (zk_bo hC) q659 dJ7_mismatch_20 ?_
      refine r_i2l hC dJ7_mismatch_23 ?_
      rw [show (16 : Int32).toInt64 = 16 from by decide]
      refine r_aload_n hC dJ7_mismatch_24 rfl (by first | rfl | exact zisR_rf _) ?_
      refine r_gets hC (zk_bo hC) q659 dJ7_mismatch_25 ?_
      refine r_i2l hC dJ7_mismatch_28 ?_
      rw [show (16 : Int32).toInt64 = 16 from by decide]
      refine r_iload_n hC dJ7_mismatch_29 rfl ?_
      refine r_gets hC (zk_bs hC) q661 dJ7_mismatch_30 ?_
      refine r_callS hC (c_vec hst h hS a b n1 n2 f1 f2 w1 w2 ha hb hw1 hw2 hn1 hn2) q663 q664 q46 q665 (n := 6) (by decide +kernel) rfl (Nat.le_of_ble_eq_true rfl) (Nat.le_of_ble_eq_true rfl) rfl (Nat.le_of_ble_eq_true rfl) (Nat.le_refl _) (Nat.le_refl _) dJ7_mismatch_33 znx (fun v9 h9 e9 => ?_)
      obtain ⟨rfl, r, rfl, hr⟩ := e9
      refine r_ist3 hC dJ7_mismatch_36 ?_
      refine r_iload_n hC dJ7_mismatch_37 rfl ?_
      rcases hr with ⟨rfl, hr⟩ | ⟨h0, hr⟩
      · refine r_if_lt hC dJ7_mismatch_38 (tgt := 43) (by decide) (fun _ => ?_) (fun q => absurd (by decide) q)
        refine r_iload_n hC dJ7_mismatch_43 rfl ?_
        refine r_iload_n hC dJ7_mismatch_44 rfl ?_
        refine r_iconst hC dJ7_mismatch_45 (v := -1) (by decide) ?_
        refine r_ixor hC dJ7_mismatch_46 ?_
        rw [zxor1]
        refine r_isub hC dJ7_mismatch_47 ?_
        rw [show nI 8 - 0 = nI 8 from by decide]
        refine r_ist3 hC dJ7_mismatch_48 ?_
        exact lp 8 (by omega) hr
      · refine r_if_lt hC dJ7_mismatch_38 (tgt := 43) (by decide) (fun q => absurd q (Int32.not_lt.mpr h0)) (fun q => ?_)
        refine r_iload_n hC dJ7_mismatch_41 rfl ?_
        exact r_iret hC hE rfl dJ7_mismatch_42 ⟨rfl, r, rfl, by rw [hr]; exact ⟨fun z => absurd z q, fun z => by cases z⟩⟩
    · skip
      refine r_iconst hC dJ7_mismatch_17 (v := (nI 0)) (by decide) ?_
      exact r_iret hC hE rfl dJ7_mismatch_18 ⟨rfl, nI 0, rfl, zMi_n (by omega) (by omega) e2⟩
theorem c_mis2 (hl : l.stackTraces = false) (h : zH) (hS : zSt g h) (a b n1 n2 len : Nat) (f1 f2 : Nat → Value) (w1 w2 : Nat → Nat) (ha : h a = some (.inl (4, n1, f1))) (hb : h b = some (.inl (4, n2, f2))) (hw1 : zBy f1 w1 n1) (hw2 : zBy f2 w2 n2) (hn1 : len ≤ n1) (hn2 : len ≤ n2) (hlen : len ≤ 8) (h1 : n1 < 1000) (h2 : n2 < 1000) : zM g l yJ7_mismatch_2 (ws_ yJ7_mismatch_2 cJ7_mismatch_2 8 (some .int)) 7 338 0 0 [.ref a, .int (nI 0), .ref b, .int (nI 0), .int (nI len)] h (zMi h len w1 w2) zNx := by
  refine zM.of (cc := cJ7_mismatch_2) (nL := 8) (ret := (some .int)) (by decide) hl (zcat rfl) (Nat.le_of_ble_eq_true rfl) ?_
  intro Z hg hz hC hE hN
  subst hg
  subst hz
  change zW Z _ _ _ 0 [some _, some _, some _, some _, some _, none, none, none] []
  have hst := hC.2.2.2.2.2.2.2.1
  have lp : ∀ i, i ≤ len → zAll (fun j => w1 j == w2 j) i = true → ∀ x6 x7, zW Z h 0 0 70 [some (.ref a), some (.int (nI 0)), some (.ref b), some (.int (nI 0)), some (.int (nI len)), some (.int (nI i)), x6, x7] [] := by
    refine zloop len (fun i ih hi hall x6 x7 => ?_)
    refine r_iload hC dJ7_mismatch_2_70 rfl ?_
    refine r_iload hC dJ7_mismatch_2_72 rfl ?_
    first | refine r_icmp_geN hC dJ7_mismatch_2_74 (tgt := 101) (by decide) (by first | omega | exact hB.1 _ | exact hB.2 _ _) (by first | omega | exact hB.1 _ | exact hB.2 _ _) (fun e1 => ?_) (fun e1 => ?_) | refine r_icmp_ge hC dJ7_mismatch_2_74 (tgt := 101) (by decide) (fun e1 => ?_) (fun e1 => ?_)
    · obtain rfl : i = len := by omega
      refine r_iconst hC dJ7_mismatch_2_101 (v := (-1)) (by decide) ?_
      exact r_iret hC hE rfl dJ7_mismatch_2_102 ⟨rfl, -1, rfl, by rw [hall]; decide⟩
    · refine r_aload_n hC dJ7_mismatch_2_77 rfl (by first | rfl | exact zisR_rf _) ?_
      refine r_iload_n hC dJ7_mismatch_2_78 rfl ?_
      refine r_iload hC dJ7_mismatch_2_79 rfl ?_
      first | refine r_iaddN hC dJ7_mismatch_2_81 ?_ | refine r_iadd hC dJ7_mismatch_2_81 ?_
      rw [Nat.zero_add]
      refine r_ald hC 4 ha (vp_in_nI (by omega : i < n1) (by omega)) (v := .int (nI (w1 i))) (by rw [nI_clamp (by omega)]; exact (hw1 i (by omega)).2) dJ7_mismatch_2_82 (by simp) ?_
      refine r_aload_n hC dJ7_mismatch_2_83 rfl (by first | rfl | exact zisR_rf _) ?_
      refine r_iload_n hC dJ7_mismatch_2_84 rfl ?_
      refine r_iload hC dJ7_mismatch_2_85 rfl ?_
      first | refine r_iaddN hC dJ7_mismatch_2_87 ?_ | refine r_iadd hC dJ7_mismatch_2_87 ?_
      rw [Nat.zero_add]
      refine r_ald hC 4 hb (vp_in_nI (by omega : i < n2) (by omega)) (v := .int (nI (w2 i))) (by rw [nI_clamp (by omega)]; exact (hw2 i (by omega)).2) dJ7_mismatch_2_88 (by simp) ?_
      have b1 := (hw1 i (by omega)).1
      have b2 := (hw2 i (by omega)).1
      refine r_icmp_eqN hC dJ7_mismatch_2_89 (tgt := 95) (by decide) (by omega) (by omega) (fun e2 => ?_) (fun e2 => ?_)
      · refine r_inc5 hC dJ7_mismatch_2_95 (by first | exact (nI_1 _) | rfl) ?_
        refine r_goto hC dJ7_mismatch_2_98 (tgt := 70) (by decide) ?_
        exact ih e1 (by omega) (by simp [zAll, hall, e2]) _ _
      · skip
        refine r_iload hC dJ7_mismatch_2_92 rfl ?_
        exact r_iret hC hE rfl dJ7_mismatch_2_94 ⟨rfl, nI i, rfl, zMi_n e1 (by omega) e2⟩
  refine r_iconst hC dJ7_mismatch_2_0 (v := (nI 0)) (by decide) ?_
  refine r_ist5 hC dJ7_mismatch_2_1 ?_
  refine r_iload hC dJ7_mismatch_2_3 rfl ?_
  refine r_bipush hC dJ7_mismatch_2_5 (v := (nI 7)) (by decide) ?_
  refine r_icmp_leN hC dJ7_mismatch_2_7 (tgt := 70) (by decide) (by omega) (by decide) (fun e => ?_) (fun e => ?_)
  · exact lp 0 (by omega) rfl _ _
  · obtain rfl : len = 8 := by omega
    refine r_aload_n hC dJ7_mismatch_2_10 rfl (by first | rfl | exact zisR_rf _) ?_
    refine r_iload_n hC dJ7_mismatch_2_11 rfl ?_
    refine r_ald hC 4 ha (i := nI 0) (vp_in_nI (by omega : 0 < n1) (by omega)) (v := .int (nI (w1 0))) (by rw [nI_clamp (by omega)]; exact (hw1 0 (by omega)).2) dJ7_mismatch_2_12 (by simp) ?_
    refine r_aload_n hC dJ7_mismatch_2_13 rfl (by first | rfl | exact zisR_rf _) ?_
    refine r_iload_n hC dJ7_mismatch_2_14 rfl ?_
    refine r_ald hC 4 hb (i := nI 0) (vp_in_nI (by omega : 0 < n2) (by omega)) (v := .int (nI (w2 0))) (by rw [nI_clamp (by omega)]; exact (hw2 0 (by omega)).2) dJ7_mismatch_2_15 (by simp) ?_
    have b1 := (hw1 0 (by omega)).1
    have b2 := (hw2 0 (by omega)).1
    refine r_icmp_eqN hC dJ7_mismatch_2_16 (tgt := 21) (by decide) (by omega) (by omega) (fun e2 => ?_) (fun e2 => ?_)
    · refine r_gets hC (zk_bo hC) q659 dJ7_mismatch_2_21 ?_
      refine r_iload_n hC dJ7_mismatch_2_24 rfl ?_
      refine r_iadd hC dJ7_mismatch_2_25 ?_
      refine r_ist6 hC dJ7_mismatch_2_26 ?_
      refine r_gets hC (zk_bo hC) q659 dJ7_mismatch_2_28 ?_
      refine r_iload_n hC dJ7_mismatch_2_31 rfl ?_
      refine r_iadd hC dJ7_mismatch_2_32 ?_
      rw [show (16 : Int32) + nI 0 = 16 from by decide]
      refine r_ist7 hC dJ7_mismatch_2_33 ?_
      refine r_aload_n hC dJ7_mismatch_2_35 rfl (by first | rfl | exact zisR_rf _) ?_
      refine r_iload hC dJ7_mismatch_2_36 rfl ?_
      refine r_i2l hC dJ7_mismatch_2_38 ?_
      rw [show (16 : Int32).toInt64 = 16 from by decide]
      refine r_aload_n hC dJ7_mismatch_2_39 rfl (by first | rfl | exact zisR_rf _) ?_
      refine r_iload hC dJ7_mismatch_2_40 rfl ?_
      refine r_i2l hC dJ7_mismatch_2_42 ?_
      rw [show (16 : Int32).toInt64 = 16 from by decide]
      refine r_iload hC dJ7_mismatch_2_43 rfl ?_
      refine r_gets hC (zk_bs hC) q661 dJ7_mismatch_2_45 ?_
      refine r_callS hC (c_vec hst h hS a b n1 n2 f1 f2 w1 w2 ha hb hw1 hw2 hn1 hn2) q663 q664 q46 q665 (n := 6) (by decide +kernel) rfl (Nat.le_of_ble_eq_true rfl) (Nat.le_of_ble_eq_true rfl) rfl (Nat.le_of_ble_eq_true rfl) (Nat.le_refl _) (Nat.le_refl _) dJ7_mismatch_2_48 znx (fun v9 h9 e9 => ?_)
      obtain ⟨rfl, r, rfl, hr⟩ := e9
      refine r_ist5 hC dJ7_mismatch_2_51 ?_
      refine r_iload hC dJ7_mismatch_2_53 rfl ?_
      rcases hr with ⟨rfl, hr⟩ | ⟨h0, hr⟩
      · refine r_if_lt hC dJ7_mismatch_2_55 (tgt := 61) (by decide) (fun _ => ?_) (fun q => absurd (by decide) q)
        refine r_iload hC dJ7_mismatch_2_61 rfl ?_
        refine r_iload hC dJ7_mismatch_2_63 rfl ?_
        refine r_iconst hC dJ7_mismatch_2_65 (v := -1) (by decide) ?_
        refine r_ixor hC dJ7_mismatch_2_66 ?_
        rw [zxor1]
        refine r_isub hC dJ7_mismatch_2_67 ?_
        rw [show nI 8 - 0 = nI 8 from by decide]
        refine r_ist5 hC dJ7_mismatch_2_68 ?_
        exact lp 8 (by omega) hr _ _
      · refine r_if_lt hC dJ7_mismatch_2_55 (tgt := 61) (by decide) (fun q => absurd q (Int32.not_lt.mpr h0)) (fun q => ?_)
        refine r_iload hC dJ7_mismatch_2_58 rfl ?_
        exact r_iret hC hE rfl dJ7_mismatch_2_60 ⟨rfl, r, rfl, by rw [hr]; exact ⟨fun z => absurd z q, fun z => by cases z⟩⟩
    · skip
      refine r_iconst hC dJ7_mismatch_2_19 (v := (nI 0)) (by decide) ?_
      exact r_iret hC hE rfl dJ7_mismatch_2_20 ⟨rfl, nI 0, rfl, zMi_n (by omega) (by omega) e2⟩
theorem c_starts2 (hl : l.stackTraces = false) (h : zH) (hS : zSt g h) (p q n1 n2 : Nat) (w1 w2 : Nat → Nat) (hp : zStr h p n1 w1) (hq : zStr h q n2 w2) (hn1 : n1 < 1000) (hn2 : n2 ≤ 8) : zM g l yJ2_startsWith_2 (ws_ yJ2_startsWith_2 cJ2_startsWith_2 8 (some .boolean)) 8 365 0 0 [.ref p, .ref q, .int (nI 0)] h (zRi (.int (nB (zPre n1 w1 n2 w2))) h) zNx := by
  refine zM.of (cc := cJ2_startsWith_2) (nL := 8) (ret := (some .boolean)) (by decide) hl (zcat rfl) (Nat.le_of_ble_eq_true rfl) ?_
  intro Z hg hz hC hE hN
  subst hg
  subst hz
  change zW Z _ _ _ 0 [some _, some _, some _, none, none, none, none, none] []
  have hst := hC.2.2.2.2.2.2.2.1
  obtain ⟨b1, f1, k1, k2, k3⟩ := hp
  obtain ⟨b2, f2, j1, j2, j3⟩ := hq
  refine r_iload_n hC dJ2_startsWith_2_0 rfl ?_
  refine r_if_lt hC dJ2_startsWith_2_1 (tgt := 17) (by decide) (fun e => absurd e (by decide)) (fun _ => ?_)
  refine r_iload_n hC dJ2_startsWith_2_4 rfl ?_
  refine r_aload_n hC dJ2_startsWith_2_5 rfl (by first | rfl | exact zisR_rf _) ?_
  refine r_callV hC (c_slen hst h p b1 n1 f1 k1 k2 (by omega)) k1 rfl q650 q370 q371 q39 q372 (n := 0) (by decide +kernel) rfl (Nat.le_of_ble_eq_true rfl) (Nat.le_of_ble_eq_true rfl) rfl (Nat.le_of_ble_eq_true rfl) (Nat.le_refl _) (Nat.le_refl _) dJ2_startsWith_2_6 znx (zri ?_)
  refine r_aload_n hC dJ2_startsWith_2_9 rfl (by first | rfl | exact zisR_rf _) ?_
  refine r_callV hC (c_slen hst h q b2 n2 f2 j1 j2 (by omega)) j1 rfl q650 q370 q371 q39 q372 (n := 0) (by decide +kernel) rfl (Nat.le_of_ble_eq_true rfl) (Nat.le_of_ble_eq_true rfl) rfl (Nat.le_of_ble_eq_true rfl) (Nat.le_refl _) (Nat.le_refl _) dJ2_startsWith_2_10 znx (zri ?_)
  refine r_isub hC dJ2_startsWith_2_13 ?_
  refine r_icmp_le hC dJ2_startsWith_2_14 (tgt := 19) (by decide) (fun e => ?_) (fun e => ?_)
  · have hle : n2 ≤ n1 := by
      have := Int32.le_iff_toInt_le.mp e
      rw [nI_toInt (by decide), pk_sub_toInt (by omega) (by omega)] at this
      omega
    refine r_aload_n hC dJ2_startsWith_2_19 rfl (by first | rfl | exact zisR_rf _) ?_
    refine r_get hC 0 in_J2b (ci := 7) rfl k1 (by decide) ⟨rfl, rfl, rfl⟩ q553 rfl dJ2_startsWith_2_20 ?_
    refine r_ast3 hC dJ2_startsWith_2_23 (by first | rfl | exact zisR_rf _) ?_
    refine r_aload_n hC dJ2_startsWith_2_24 rfl (by first | rfl | exact zisR_rf _) ?_
    refine r_get hC 0 in_J2b (ci := 7) rfl j1 (by decide) ⟨rfl, rfl, rfl⟩ q553 rfl dJ2_startsWith_2_25 ?_
    refine r_ast4 hC dJ2_startsWith_2_28 (by first | rfl | exact zisR_rf _) ?_
    refine r_iconst hC dJ2_startsWith_2_30 (v := (nI 0)) (by decide) ?_
    refine r_ist5 hC dJ2_startsWith_2_31 ?_
    refine r_aload hC dJ2_startsWith_2_33 rfl rfl ?_
    refine r_alen hC dJ2_startsWith_2_35 j2 ?_
    refine r_ist6 hC dJ2_startsWith_2_36 ?_
    refine r_aload_n hC dJ2_startsWith_2_38 rfl (by first | rfl | exact zisR_rf _) ?_
    refine r_callV hC (c_coder hst h p b1 k1) k1 rfl q373 q374 q375 q39 q376 (n := 0) (by decide +kernel) rfl (Nat.le_of_ble_eq_true rfl) (Nat.le_of_ble_eq_true rfl) rfl (Nat.le_of_ble_eq_true rfl) (Nat.le_refl _) (Nat.le_refl _) dJ2_startsWith_2_39 znx (zri ?_)
    refine r_ist7 hC dJ2_startsWith_2_42 ?_
    refine r_iload hC dJ2_startsWith_2_44 rfl ?_
    refine r_aload_n hC dJ2_startsWith_2_46 rfl (by first | rfl | exact zisR_rf _) ?_
    refine r_callV hC (c_coder hst h q b2 j1) j1 rfl q373 q374 q375 q39 q376 (n := 0) (by decide +kernel) rfl (Nat.le_of_ble_eq_true rfl) (Nat.le_of_ble_eq_true rfl) rfl (Nat.le_of_ble_eq_true rfl) (Nat.le_refl _) (Nat.le_refl _) dJ2_startsWith_2_47 znx (zri ?_)
    refine r_icmp_ne hC dJ2_startsWith_2_50 (tgt := 82) (by decide) (fun e => absurd rfl e) (fun _ => ?_)
    refine r_iload hC dJ2_startsWith_2_53 rfl ?_
    refine r_iconst hC dJ2_startsWith_2_55 (v := (nI 1)) (by decide) ?_
    refine r_icmp_ne hC dJ2_startsWith_2_56 (tgt := 63) (by decide) (fun _ => ?_) (fun e => absurd e (by decide))
    refine r_aload_n hC dJ2_startsWith_2_63 rfl (by first | rfl | exact zisR_rf _) ?_
    refine r_iload_n hC dJ2_startsWith_2_64 rfl ?_
    refine r_aload hC dJ2_startsWith_2_65 rfl (by first | rfl | exact zisR_rf _) ?_
    refine r_iconst hC dJ2_startsWith_2_67 (v := (nI 0)) (by decide) ?_
    refine r_iload hC dJ2_startsWith_2_68 rfl ?_
    refine r_callS hC (c_mis2 hst h hS b1 b2 n1 n2 n2 f1 f2 w1 w2 k2 j2 k3 j3 hle (Nat.le_refl _) hn2 hn1 (by omega)) q995 q996 q46 q997 (n := 5) (by decide +kernel) rfl (Nat.le_of_ble_eq_true rfl) (Nat.le_of_ble_eq_true rfl) rfl (Nat.le_of_ble_eq_true rfl) (Nat.le_refl _) (Nat.le_refl _) dJ2_startsWith_2_70 znx (fun v9 h9 e9 => ?_)
    obtain ⟨rfl, r, rfl, hr⟩ := e9
    refine r_if_ge hC dJ2_startsWith_2_73 (tgt := 80) (by decide) (fun e => ?_) (fun e => ?_)
    · have e0 : zPre n1 w1 n2 w2 = false := by
        cases hx : zAll (fun j => w1 j == w2 j) n2 with
        | false => simp [zPre, hx]
        | true => exact absurd (hr.mpr hx) (Int32.not_lt.mpr e)
      rw [e0] at hE
      refine r_iconst hC dJ2_startsWith_2_80 (v := (nI 0)) (by decide) ?_
      exact r_zret hC hE rfl (by first | rfl | exact nB_nz _ | exact nar_ch (by omega) | assumption) dJ2_startsWith_2_81 ⟨rfl, rfl⟩
    · have e0 : zPre n1 w1 n2 w2 = true := by simp [zPre, hle, hr.mp (Int32.not_le.mp e)]
      rw [e0] at hE
      refine r_iconst hC dJ2_startsWith_2_76 (v := (nI 1)) (by decide) ?_
      refine r_goto hC dJ2_startsWith_2_77 (tgt := 81) (by decide) ?_
      exact r_zret hC hE rfl (by first | rfl | exact nB_nz _ | exact nar_ch (by omega) | assumption) dJ2_startsWith_2_81 ⟨rfl, rfl⟩
  · have hle : ¬ n2 ≤ n1 := fun q => e (by
      rw [Int32.le_iff_toInt_le, nI_toInt (by decide), pk_sub_toInt (by omega) (by omega)]
      omega)
    have e0 : zPre n1 w1 n2 w2 = false := by simp [zPre, hle]
    rw [e0] at hE
    refine r_iconst hC dJ2_startsWith_2_17 (v := (nI 0)) (by decide) ?_
    exact r_zret hC hE rfl (by first | rfl | exact nB_nz _ | exact nar_ch (by omega) | assumption) dJ2_startsWith_2_18 ⟨rfl, rfl⟩
theorem c_starts (hl : l.stackTraces = false) (h : zH) (hS : zSt g h) (p q n1 n2 : Nat) (w1 w2 : Nat → Nat) (hp : zStr h p n1 w1) (hq : zStr h q n2 w2) (hn1 : n1 < 1000) (hn2 : n2 ≤ 8) : zM g l yJ2_startsWith (ws_ yJ2_startsWith cJ2_startsWith 2 (some .boolean)) 9 392 0 0 [.ref p, .ref q] h (zRi (.int (nB (zPre n1 w1 n2 w2))) h) zNx := by
  refine zM.of (cc := cJ2_startsWith) (nL := 2) (ret := (some .boolean)) (by decide) hl (zcat rfl) (Nat.le_of_ble_eq_true rfl) ?_
  intro Z hg hz hC hE hN
  subst hg
  subst hz
  change zW Z _ _ _ 0 [some _, some _] []
  have hst := hC.2.2.2.2.2.2.2.1
  obtain ⟨b1, f1, k1, k2, k3⟩ := id hp
  refine r_aload_n hC dJ2_startsWith_0 rfl (by first | rfl | exact zisR_rf _) ?_
  refine r_aload_n hC dJ2_startsWith_1 rfl (by first | rfl | exact zisR_rf _) ?_
  refine r_iconst hC dJ2_startsWith_2 (v := (nI 0)) (by decide) ?_
  refine r_callV hC (c_starts2 hst h hS p q n1 n2 w1 w2 hp hq hn1 hn2) k1 rfl q991 q992 q993 q39 q994 (n := 2) (by decide +kernel) rfl (Nat.le_of_ble_eq_true rfl) (Nat.le_of_ble_eq_true rfl) rfl (Nat.le_of_ble_eq_true rfl) (Nat.le_refl _) (Nat.le_refl _) dJ2_startsWith_3 znx (zri ?_)
  exact r_zret hC hE rfl (by first | rfl | exact nB_nz _ | exact nar_ch (by omega) | assumption) dJ2_startsWith_6 ⟨rfl, rfl⟩
theorem c_nonSync (hl : l.stackTraces = false) (h : zH) (hS : zSt g h) (p q b n1 n c : Nat) (f : Nat → Value) (w1 w2 : Nat → Nat) (m : Int32) (hp : zStr h p n1 w1) (hq : h q = some (.inr (6, [.ref b, .int 0, .int m, .int (nI c)]))) (hb : h b = some (.inl (4, n, f))) (hw : zBy f w2 n) (hc : c ≤ n) (hn : n < 1000) (hn1 : n1 ≤ 8) : zM g l yJ2_nonSyncContentEquals (ws_ yJ2_nonSyncContentEquals cJ2_nonSyncContentEquals 6 (some .boolean)) 8 361 0 0 [.ref p, .ref q] h (zRi (.int (nB (zEqW n1 w1 c w2))) h) zNx := by
  refine zM.of (cc := cJ2_nonSyncContentEquals) (nL := 6) (ret := (some .boolean)) (by decide) hl (zcat rfl) (Nat.le_of_ble_eq_true rfl) ?_
  intro Z hg hz hC hE hN
  subst hg
  subst hz
  change zW Z _ _ _ 0 [some _, some _, none, none, none, none] []
  have hst := hC.2.2.2.2.2.2.2.1
  obtain ⟨b1, f1, k1, k2, k3⟩ := hp
  refine r_aload_n hC dJ2_nonSyncContentEquals_0 rfl (by first | rfl | exact zisR_rf _) ?_
  refine r_callV hC (c_slen hst h p b1 n1 f1 k1 k2 (by omega)) k1 rfl q650 q370 q371 q39 q372 (n := 0) (by decide +kernel) rfl (Nat.le_of_ble_eq_true rfl) (Nat.le_of_ble_eq_true rfl) rfl (Nat.le_of_ble_eq_true rfl) (Nat.le_refl _) (Nat.le_refl _) dJ2_nonSyncContentEquals_1 znx (zri ?_)
  refine r_ist2 hC dJ2_nonSyncContentEquals_4 ?_
  refine r_iload_n hC dJ2_nonSyncContentEquals_5 rfl ?_
  refine r_aload_n hC dJ2_nonSyncContentEquals_6 rfl (by first | rfl | exact zisR_rf _) ?_
  refine r_callO hC (c_bLen hst h q b m (nI c) hq) hq rfl q291 q455 q1535 q290 q286 q1545 q38 q288 (n := 0) (by decide +kernel) rfl (Nat.le_of_ble_eq_true rfl) (Nat.le_of_ble_eq_true rfl) rfl (Nat.le_of_ble_eq_true rfl) (Nat.le_refl _) (Nat.le_refl _) dJ2_nonSyncContentEquals_7 znx (zri ?_)
  refine r_icmp_eqN hC dJ2_nonSyncContentEquals_10 (tgt := 15) (by decide) (by omega) (by omega) (fun e => ?_) (fun e => ?_)
  · subst e
    refine r_aload_n hC dJ2_nonSyncContentEquals_15 rfl (by first | rfl | exact zisR_rf _) ?_
    refine r_get hC 0 in_J2b (ci := 7) rfl k1 (by decide) ⟨rfl, rfl, rfl⟩ q553 rfl dJ2_nonSyncContentEquals_16 ?_
    refine r_ast3 hC dJ2_nonSyncContentEquals_19 (by first | rfl | exact zisR_rf _) ?_
    refine r_aload_n hC dJ2_nonSyncContentEquals_20 rfl (by first | rfl | exact zisR_rf _) ?_
    refine r_callV hC (c_bVal hst h q b m (nI n1) hq) hq rfl q450 q451 q453 q37 q454 (n := 0) (by decide +kernel) rfl (Nat.le_of_ble_eq_true rfl) (Nat.le_of_ble_eq_true rfl) rfl (Nat.le_of_ble_eq_true rfl) (Nat.le_refl _) (Nat.le_refl _) dJ2_nonSyncContentEquals_21 znx (zri ?_)
    refine r_ast4 hC dJ2_nonSyncContentEquals_24 (by first | rfl | exact zisR_rf _) ?_
    refine r_aload_n hC dJ2_nonSyncContentEquals_26 rfl (by first | rfl | exact zisR_rf _) ?_
    refine r_callV hC (c_coder hst h p b1 k1) k1 rfl q373 q374 q375 q39 q376 (n := 0) (by decide +kernel) rfl (Nat.le_of_ble_eq_true rfl) (Nat.le_of_ble_eq_true rfl) rfl (Nat.le_of_ble_eq_true rfl) (Nat.le_refl _) (Nat.le_refl _) dJ2_nonSyncContentEquals_27 znx (zri ?_)
    refine r_ist5 hC dJ2_nonSyncContentEquals_30 ?_
    refine r_iload hC dJ2_nonSyncContentEquals_32 rfl ?_
    refine r_aload_n hC dJ2_nonSyncContentEquals_34 rfl (by first | rfl | exact zisR_rf _) ?_
    refine r_callV hC (c_bCoder hst h q b m (nI n1) hq) hq rfl q651 q652 q654 q37 q655 (n := 0) (by decide +kernel) rfl (Nat.le_of_ble_eq_true rfl) (Nat.le_of_ble_eq_true rfl) rfl (Nat.le_of_ble_eq_true rfl) (Nat.le_refl _) (Nat.le_refl _) dJ2_nonSyncContentEquals_35 znx (zri ?_)
    refine r_icmp_ne hC dJ2_nonSyncContentEquals_38 (tgt := 66) (by decide) (fun e => absurd rfl e) (fun _ => ?_)
    refine r_aload_n hC dJ2_nonSyncContentEquals_41 rfl (by first | rfl | exact zisR_rf _) ?_
    refine r_alen hC dJ2_nonSyncContentEquals_42 k2 ?_
    refine r_aload hC dJ2_nonSyncContentEquals_43 rfl (by first | rfl | exact zisR_rf _) ?_
    refine r_alen hC dJ2_nonSyncContentEquals_45 hb ?_
    refine r_icmp_gtN hC dJ2_nonSyncContentEquals_46 (tgt := 64) (by decide) (by omega) (by omega) (fun e => by omega) (fun _ => ?_)
    refine r_aload_n hC dJ2_nonSyncContentEquals_49 rfl (by first | rfl | exact zisR_rf _) ?_
    refine r_aload hC dJ2_nonSyncContentEquals_50 rfl (by first | rfl | exact zisR_rf _) ?_
    refine r_aload_n hC dJ2_nonSyncContentEquals_52 rfl (by first | rfl | exact zisR_rf _) ?_
    refine r_alen hC dJ2_nonSyncContentEquals_53 k2 ?_
    refine r_callS hC (c_mis hst h hS b1 b n1 n n1 f1 f w1 w2 k2 hb k3 hw (Nat.le_refl _) hc hn1 (by omega) hn) q656 q657 q46 q658 (n := 3) (by decide +kernel) rfl (Nat.le_of_ble_eq_true rfl) (Nat.le_of_ble_eq_true rfl) rfl (Nat.le_of_ble_eq_true rfl) (Nat.le_refl _) (Nat.le_refl _) dJ2_nonSyncContentEquals_54 znx (fun v9 h9 e9 => ?_)
    obtain ⟨rfl, r, rfl, hr⟩ := e9
    refine r_if_ge hC dJ2_nonSyncContentEquals_57 (tgt := 64) (by decide) (fun e => ?_) (fun e => ?_)
    · have e0 : zEqW n1 w1 n1 w2 = false := by
        cases hx : zAll (fun j => w1 j == w2 j) n1 with
        | false => simp [zEqW, hx]
        | true => exact absurd (hr.mpr hx) (Int32.not_lt.mpr e)
      rw [e0] at hE
      refine r_iconst hC dJ2_nonSyncContentEquals_64 (v := (nI 0)) (by decide) ?_
      exact r_zret hC hE rfl (by first | rfl | exact nB_nz _ | exact nar_ch (by omega) | assumption) dJ2_nonSyncContentEquals_65 ⟨rfl, rfl⟩
    · have e0 : zEqW n1 w1 n1 w2 = true := by simp [zEqW, hr.mp (Int32.not_le.mp e)]
      rw [e0] at hE
      refine r_iconst hC dJ2_nonSyncContentEquals_60 (v := (nI 1)) (by decide) ?_
      refine r_goto hC dJ2_nonSyncContentEquals_61 (tgt := 65) (by decide) ?_
      exact r_zret hC hE rfl (by first | rfl | exact nB_nz _ | exact nar_ch (by omega) | assumption) dJ2_nonSyncContentEquals_65 ⟨rfl, rfl⟩
  · have e0 : zEqW n1 w1 c w2 = false := by simp [zEqW, e]
    rw [e0] at hE
    refine r_iconst hC dJ2_nonSyncContentEquals_13 (v := (nI 0)) (by decide) ?_
    exact r_zret hC hE rfl (by first | rfl | exact nB_nz _ | exact nar_ch (by omega) | assumption) dJ2_nonSyncContentEquals_14 ⟨rfl, rfl⟩
theorem c_ceqB (hl : l.stackTraces = false) (h : zH) (hS : zSt g h) (p q b n1 n c : Nat) (f : Nat → Value) (w1 w2 : Nat → Nat) (m : Int32) (hp : zStr h p n1 w1) (hq : h q = some (.inr (6, [.ref b, .int 0, .int m, .int (nI c)]))) (hb : h b = some (.inl (4, n, f))) (hw : zBy f w2 n) (hc : c ≤ n) (hn : n < 1000) (hn1 : n1 ≤ 8) : zM g l yJ2_contentEquals (wsW_ yJ2_contentEquals cJ2_contentEquals 5 (some .boolean) [((18), (28), (29), (0)), ((29), (32), (29), (0))]) 9 386 0 0 [.ref p, .ref q] h (zRi (.int (nB (zEqW n1 w1 c w2))) h) zNx := by
  refine zM.ofH (hh := [((18), (28), (29), (0)), ((29), (32), (29), (0))]) (cc := cJ2_contentEquals) (nL := 5) (ret := (some .boolean)) (by decide) hl (zcat rfl) (Nat.le_of_ble_eq_true rfl) ?_
  intro Z hg hz hC hE hN
  subst hg
  subst hz
  change zW Z _ _ _ 0 [some _, some _, none, none, none] []
  have hst := hC.2.2.2.2.2.2.2.1
  obtain ⟨b1, f1, k1, k2, k3⟩ := id hp
  refine r_aload_n hC dJ2_contentEquals_0 rfl (by first | rfl | exact zisR_rf _) ?_
  refine r_instY hC hq rfl (nm := "java/lang/AbstractStringBuilder") q644 (Or.inl (by decide +kernel)) dJ2_contentEquals_1 ?_
  refine r_if_eq hC dJ2_contentEquals_4 (tgt := 43) (by decide) (fun e => absurd e (by decide)) (fun _ => ?_)
  refine r_aload_n hC dJ2_contentEquals_7 rfl (by first | rfl | exact zisR_rf _) ?_
  refine r_instNo hC hq rfl (nm := "java/lang/StringBuffer") q645 (by decide +kernel) dJ2_contentEquals_8 ?_
  refine r_if_eq hC dJ2_contentEquals_11 (tgt := 34) (by decide) (fun _ => ?_) (fun e => absurd rfl e)
  refine r_aload_n hC dJ2_contentEquals_34 rfl (by first | rfl | exact zisR_rf _) ?_
  refine r_aload_n hC dJ2_contentEquals_35 rfl (by first | rfl | exact zisR_rf _) ?_
  refine r_castY hC hq rfl (nm := "java/lang/AbstractStringBuilder") q644 (Or.inl (by decide +kernel)) dJ2_contentEquals_36 ?_
  refine r_callV hC (c_nonSync hst h hS p q b n1 n c f w1 w2 m hp hq hb hw hc hn hn1) k1 rfl q646 q648 qs5 q39 q649 (n := 1) (by decide +kernel) rfl (Nat.le_of_ble_eq_true rfl) (Nat.le_of_ble_eq_true rfl) rfl (Nat.le_of_ble_eq_true rfl) (Nat.le_refl _) (Nat.le_refl _) dJ2_contentEquals_39 znx (zri ?_)
  exact r_zret hC hE rfl (by first | rfl | exact nB_nz _ | exact nar_ch (by omega) | assumption) dJ2_contentEquals_42 ⟨rfl, rfl⟩
theorem c_ceqS (hl : l.stackTraces = false) (h : zH) (hS : zSt g h) (p q n1 n2 : Nat) (w1 w2 : Nat → Nat) (hp : zStr h p n1 w1) (hq : zStr h q n2 w2) (hn1 : n1 < 1000) (hn2 : n2 < 1000) : zM g l yJ2_contentEquals (wsW_ yJ2_contentEquals cJ2_contentEquals 5 (some .boolean) [((18), (28), (29), (0)), ((29), (32), (29), (0))]) 9 386 0 0 [.ref p, .ref q] h (zRi (.int (nB (zEqW n1 w1 n2 w2))) h) zNx := by
  refine zM.ofH (hh := [((18), (28), (29), (0)), ((29), (32), (29), (0))]) (cc := cJ2_contentEquals) (nL := 5) (ret := (some .boolean)) (by decide) hl (zcat rfl) (Nat.le_of_ble_eq_true rfl) ?_
  intro Z hg hz hC hE hN
  subst hg
  subst hz
  change zW Z _ _ _ 0 [some _, some _, none, none, none] []
  have hst := hC.2.2.2.2.2.2.2.1
  obtain ⟨b1, f1, k1, k2, k3⟩ := id hp
  obtain ⟨b2, f2, j1, j2, j3⟩ := id hq
  refine r_aload_n hC dJ2_contentEquals_0 rfl (by first | rfl | exact zisR_rf _) ?_
  refine r_instNo hC j1 rfl (nm := "java/lang/AbstractStringBuilder") q644 (by decide +kernel) dJ2_contentEquals_1 ?_
  refine r_if_eq hC dJ2_contentEquals_4 (tgt := 43) (by decide) (fun _ => ?_) (fun e => absurd rfl e)
  refine r_aload_n hC dJ2_contentEquals_43 rfl (by first | rfl | exact zisR_rf _) ?_
  refine r_instY hC j1 rfl (nm := "java/lang/String") q763 (Or.inr rfl) dJ2_contentEquals_44 ?_
  refine r_if_eq hC dJ2_contentEquals_47 (tgt := 56) (by decide) (fun e => absurd e (by decide)) (fun _ => ?_)
  refine r_aload_n hC dJ2_contentEquals_50 rfl (by first | rfl | exact zisR_rf _) ?_
  refine r_aload_n hC dJ2_contentEquals_51 rfl (by first | rfl | exact zisR_rf _) ?_
  refine r_callV hC (c_sEq hst h p q n1 n2 w1 w2 hp hq hn1 hn2) k1 rfl q764 q765 q766 q39 q767 (n := 1) (by decide +kernel) rfl (Nat.le_of_ble_eq_true rfl) (Nat.le_of_ble_eq_true rfl) rfl (Nat.le_of_ble_eq_true rfl) (Nat.le_refl _) (Nat.le_refl _) dJ2_contentEquals_52 znx (zri ?_)
  exact r_zret hC hE rfl (by first | rfl | exact nB_nz _ | exact nar_ch (by omega) | assumption) dJ2_contentEquals_55 ⟨rfl, rfl⟩
end JD6

