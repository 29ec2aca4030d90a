/-! THE COMPONENT 9: the buffer; the recount -/
set_option maxRecDepth 100000
def kbuf (k : kS) (n : Nat) (w : Nat → Nat) : kS := (k.1, nup k.2.1 3 n, (fun t => if t = 6 then w else k.2.2.1 t), k.2.2.2)
/-- but for the buffer's two cells nothing that was known is lost -/
def kFz (A : Nat → Nat) (h h' : zH) : Prop := ∀ (a : Nat) (e : zE), h a = some e → a ≠ A 1 → a ≠ A 2 → h' a = some e
theorem kbuf_E (A : Nat → Nat) (k : kS) (n : Nat) (w : Nat → Nat) (m : Nat) : kE A (kbuf k n w) m = kE A k m := by
  unfold kE
  simp [kbuf, kN, kAf, kA, kT, kI]
theorem kbuf_nb (k : kS) (n : Nat) (w : Nat → Nat) (m : Nat) : kNb (kbuf k n w) m = kNb k m := by
  simp [kNb, kbuf, kZ, nup]
theorem kIs.buf {g : zG} {A : Nat → Nat} {k : kS} {h : zH} (hK : kIs g A k h) {n : Nat} {m : Int32} {f : Nat → Value} {w : Nat → Nat} (hm : m = 0 ∨ m = 1) (hf : zBy f w 16) (hn : n ≤ 8) :
    kIs g A (kbuf k n w) (zup (zup h (A 2) (.inl (4, 16, f))) (A 1) (.inr (6, [.ref (A 2), .int 0, .int m, .int (nI n)]))) ∧ kFz A h (zup (zup h (A 2) (.inl (4, 16, f))) (A 1) (.inr (6, [.ref (A 2), .int 0, .int m, .int (nI n)]))) := by
  obtain ⟨K1, K2, ⟨⟨s1, ⟨f2, s2⟩, ⟨f3, s3⟩, s4⟩, ⟨m0, hm0, b1⟩, ⟨f0, b2, b3⟩, ⟨fu, u1, u2⟩, ⟨fg, g1, g2⟩, l1, l2, l3, st, rest⟩, hB⟩ := id hK
  have h12 : A 1 ≠ A 2 := fun z => by rw [z, b2] at b1; cases b1
  have fr : kFz A h (zup (zup h (A 2) (.inl (4, 16, f))) (A 1) (.inr (6, [.ref (A 2), .int 0, .int m, .int (nI n)]))) := fun a e q n1 n2 => by rw [zup_n n1, zup_n n2]; exact q
  have go : ∀ (a : Nat) (e : zE), h a = some e → (∀ fs, e ≠ .inr (6, fs)) → (∀ F, e ≠ .inl (4, 16, F)) → (zup (zup h (A 2) (.inl (4, 16, f))) (A 1) (.inr (6, [.ref (A 2), .int 0, .int m, .int (nI n)]))) a = some e := fun a e q n1 n2 => fr a e q (fun z => by rw [z, b1] at q; cases q; exact n1 _ rfl) (fun z => by rw [z, b2] at q; cases q; exact n2 _ rfl)
  have li : ∀ {b e c : Nat} {F : Nat → Nat}, kLi g h b e c F → kLi g (zup (zup h (A 2) (.inl (4, 16, f))) (A 1) (.inr (6, [.ref (A 2), .int 0, .int m, .int (nI n)]))) b e c F := fun t => by
    obtain ⟨mc, cc, G, t1, t2, t3⟩ := t
    exact ⟨mc, cc, G, go _ _ t1 (fun _ z => by cases z) (fun _ z => by cases z), go _ _ t2 (fun _ z => by cases z) (fun _ z => by cases z), t3⟩
  refine ⟨⟨fun j hj => ?_, fun j j' h1 h2 => K2 j j' (by rw [← kbuf_nb k n w]; exact h1) (by rw [← kbuf_nb k n w]; exact h2), ⟨⟨go _ _ s1 (fun _ z => by cases z) (fun _ z => by cases z), ⟨f2, go _ _ s2 (fun _ z => by cases z) (fun _ z => by cases z)⟩, ⟨f3, go _ _ s3 (fun _ z => by cases z) (fun _ z => by cases z)⟩, go _ _ s4 (fun _ z => by cases z) (fun _ z => by cases z)⟩, ⟨m, hm, zup_s⟩, ⟨f, by rw [zup_n (Ne.symm h12)]; exact zup_s, hf⟩, ⟨fu, go _ _ u1 (fun _ z => by cases z) (fun _ z => by cases z), u2⟩, ⟨fg, go _ _ g1 (fun _ z => by cases z) (fun _ z => by cases z), g2⟩, li l1, li l2, li l3, fun p hp => ?_, rest⟩, ?_⟩, fr⟩
  · rw [kbuf_nb] at hj
    rw [kbuf_E]
    have hx := K1 j hj
    exact ⟨fr _ _ hx.1 (k_no hK (Or.inr ⟨_, b1, rfl⟩) j hj) (k_no hK (Or.inr ⟨_, b2, rfl⟩) j hj), hx.2⟩
  · obtain ⟨p1, ⟨fp, p2, p3⟩, p4⟩ := st p hp
    exact ⟨go _ _ p1 (fun _ z => by cases z) (fun _ z => by cases z), ⟨fp, fr _ _ p2 (fun z => by rw [z, b1] at p2; cases p2) p4, p3⟩, p4⟩
  · obtain ⟨c1, c2, c3, c4, c5, c6, c7⟩ := hB
    exact ⟨c1, c2, c3, hn, c5, c6, c7⟩
def kBg (k : kS) (n : Nat) : kS := (List.range n).foldl (fun k j => kuA k j 5 0) (kuR k 0)
theorem kBg_s (k : kS) (n : Nat) : kBg k (n + 1) = kuA (kBg k n) n 5 0 := by
  unfold kBg; rw [List.range_succ, List.foldl_append]; rfl
theorem kBg_2 (k : kS) (n : Nat) : (kBg k n).2 = (kuR k 0).2 := by
  induction n with
  | zero => rfl
  | succ n ih => rw [kBg_s]; exact ih
theorem kBg_same (k : kS) (n : Nat) : kSame k (kBg k n) := kuR_same.tr (kSame.of2 (kBg_2 k n))
theorem kBg_B {k : kS} (hB : kB k) (n : Nat) : kB (kBg k n) := kB.of2 (k := kuR k 0) (kBg_2 k n) hB
section X9
variable {g : zG} {l : Launch} {A : Nat → Nat} {k : kS} {h : zH}
theorem c_xtype (hl : l.stackTraces = false) (hK : kIs g A k h) (c : Nat) (hc : c < 65536) : zM g l yX1_type (ws_ yX1_type cX1_type 2 (some .int)) 7 109 2 12 [.ref (A 0), .int (nI c)] h (fun u h' => 97 ≤ c ∧ c ≤ 122 ∧ kZ k 3 < 8 ∧ u = some (.int (nI (kZ k 3 + 1))) ∧ kIs g A (kbuf k (kZ k 3 + 1) (fun j => if j = kZ k 3 then c else kT k 6 j)) h' ∧ kFz A h h') (fun E h' => h' = h ∧ (E = IAE ∧ ¬ (97 ≤ c ∧ c ≤ 122) ∨ E = ISE ∧ 97 ≤ c ∧ c ≤ 122 ∧ ¬ kZ k 3 < 8)) := by
  refine zM.of (cc := cX1_type) (nL := 2) (ret := (some .int)) (by decide) hl (zcat rfl) (Nat.le_of_ble_eq_true rfl) ?_
  intro Z hg hz hC hE hN
  subst hg
  subst hz
  change zW Z _ _ _ 0 [some _, some _] []
  have hst := hC.2.2.2.2.2.2.2.1
  have hB := hK.2.2.2
  have h8 : kZ k 3 ≤ 8 := hB.2.2.2.1
  obtain ⟨m, hm, b1⟩ := hK.2.2.1.2.1
  obtain ⟨f, b2, b3⟩ := hK.2.2.1.2.2.1
  have hA1 := hK.2.2.1.2.2.2.2.2.2.2.2.2.1
  have h12 : A 2 ≠ A 1 := fun z => by rw [z, b1] at b2; cases b2
  have k17 : zW Z h 2 12 17 [some (.ref (A 0)), some (.int (nI c))] [.int (nB (decide (97 ≤ c ∧ c ≤ 122)))] := by
    refine r_callS hC (c_rqA hst (decide (97 ≤ c ∧ c ≤ 122))) q849 q850 q36 q851 (n := 1) (by decide +kernel) rfl (Nat.le_of_ble_eq_true rfl) (Nat.le_of_ble_eq_true rfl) rfl (Nat.le_of_ble_eq_true rfl) (cb' := 1) (sb' := 6) (by omega) (by omega) dX1_type_17 (fun E h' e => by obtain ⟨rfl, rfl, hb⟩ := e; exact r_xout hC hE (fun _ q => by cases q) ⟨rfl, Or.inl ⟨rfl, of_decide_eq_false hb⟩⟩) (fun v9 h9 e9 => ?_)
    obtain ⟨rfl, rfl, h1⟩ := e9
    have h1' := of_decide_eq_true h1
    have k37 : zW Z h9 1 6 37 [some (.ref (A 0)), some (.int (nI c))] [.int (nB (decide (kZ k 3 < 8)))] := by
      refine r_callS hC (c_rqS hst (decide (kZ k 3 < 8))) q863 q864 q36 q865 (n := 1) (by decide +kernel) rfl (Nat.le_of_ble_eq_true rfl) (Nat.le_of_ble_eq_true rfl) rfl (Nat.le_of_ble_eq_true rfl) (cb' := 0) (sb' := 0) (by omega) (by omega) dX1_type_37 (fun E h' e => by obtain ⟨rfl, rfl, hb⟩ := e; exact r_xout hC hE (fun _ q => by cases q) ⟨rfl, Or.inr ⟨rfl, h1'.1, h1'.2, of_decide_eq_false hb⟩⟩) (fun v9 h9 e9 => ?_)
      obtain ⟨rfl, rfl, h2⟩ := e9
      have h2' := of_decide_eq_true h2
      refine r_aload_n hC dX1_type_40 rfl (by first | rfl | exact zisR_rf _) ?_
      refine r_get hC 0 in_X1 (ci := 0) rfl (k_led hK) (by decide) ⟨rfl, rfl, rfl⟩ q256 rfl dX1_type_41 ?_
      refine r_iload_n hC dX1_type_44 rfl ?_
      refine r_callV hC (c_bApp hst h9 (A 1) (A 2) 16 (kZ k 3) c f m hA1.1 hA1.2 b1 b2 (by omega) (by decide) (by omega)) b1 rfl q881 q882 q883 q38 q884 (n := 1) (by decide +kernel) rfl (Nat.le_of_ble_eq_true rfl) (Nat.le_of_ble_eq_true rfl) rfl (Nat.le_of_ble_eq_true rfl) (Nat.le_refl _) (Nat.le_refl _) dX1_type_45 znx (zri ?_)
      have hf2 : zBy (zst f (kZ k 3) (.int (nI c))) (fun j => if j = kZ k 3 then c else kT k 6 j) 16 := fun j hj => by
        unfold zst
        by_cases q : j = kZ k 3
        · simp only [q, if_true]; exact ⟨by omega, trivial⟩
        · simp only [q, if_false]; exact b3 j hj
      obtain ⟨hK2, hfz⟩ := hK.buf (n := kZ k 3 + 1) hm hf2 (by omega)
      rw [zup_c (h := h9) (Ne.symm h12)]
      have b1' := hK2.2.2.1.2.1
      obtain ⟨m', -, b1'⟩ := b1'
      refine r_pop hC dX1_type_48 (by first | rfl | exact zcat1 _) ?_
      refine r_aload_n hC dX1_type_49 rfl (by first | rfl | exact zisR_rf _) ?_
      refine r_get hC 0 in_X1 (ci := 0) rfl (k_led hK2) (by decide) ⟨rfl, rfl, rfl⟩ q256 rfl dX1_type_50 ?_
      refine r_callV hC (c_bLen hst _ (A 1) (A 2) m' _ b1') b1' rfl q285 q286 q287 q38 q288 (n := 0) (by decide +kernel) rfl (Nat.le_of_ble_eq_true rfl) (Nat.le_of_ble_eq_true rfl) rfl (Nat.le_of_ble_eq_true rfl) (Nat.le_refl _) (Nat.le_refl _) dX1_type_53 znx (zri ?_)
      exact r_iret hC hE rfl dX1_type_56 ⟨h1'.1, h1'.2, h2', rfl, hK2, hfz⟩
    have kb := zbool hC dX1_type_32 dX1_type_33 dX1_type_36 rfl rfl (by decide) k37
    refine r_aload_n hC dX1_type_20 rfl (by first | rfl | exact zisR_rf _) ?_
    refine r_get hC 0 in_X1 (ci := 0) rfl (k_led hK) (by decide) ⟨rfl, rfl, rfl⟩ q256 rfl dX1_type_21 ?_
    refine r_callV hC (c_bLen hst h9 (A 1) (A 2) m (nI (kZ k 3)) b1) b1 rfl q285 q286 q287 q38 q288 (n := 0) (by decide +kernel) rfl (Nat.le_of_ble_eq_true rfl) (Nat.le_of_ble_eq_true rfl) rfl (Nat.le_of_ble_eq_true rfl) (cb' := 1) (sb' := 6) (by omega) (by omega) dX1_type_24 znx (zri ?_)
    refine r_bipush hC dX1_type_27 (v := (nI 8)) (by decide) ?_
    refine r_icmp_geN hC dX1_type_29 (tgt := 36) (by decide) (by omega) (by decide) (fun e => kb.2 (decide_eq_false (by omega))) (fun e => kb.1 (decide_eq_true e))
  have kb := zbool hC dX1_type_12 dX1_type_13 dX1_type_16 rfl rfl (by decide) k17
  refine r_iload_n hC dX1_type_0 rfl ?_
  refine r_bipush hC dX1_type_1 (v := (nI 97)) (by decide) ?_
  refine r_icmp_ltN hC dX1_type_3 (tgt := 16) (by decide) (by omega) (by decide) (fun e => kb.2 (decide_eq_false (by omega))) (fun e1 => ?_)
  refine r_iload_n hC dX1_type_6 rfl ?_
  refine r_bipush hC dX1_type_7 (v := (nI 122)) (by decide) ?_
  refine r_icmp_gtN hC dX1_type_9 (tgt := 16) (by decide) (by omega) (by decide) (fun e => kb.2 (decide_eq_false (by omega))) (fun e => kb.1 (decide_eq_true ⟨e1, e⟩))
theorem c_xback (hl : l.stackTraces = false) (hK : kIs g A k h) : zM g l yX1_back (ws_ yX1_back cX1_back 1 (some .int)) 7 124 1 6 [.ref (A 0)] h (fun u h' => 0 < kZ k 3 ∧ u = some (.int (nI (kZ k 3 - 1))) ∧ kFz A h h' ∧ ∃ w, (∀ j, j < kZ k 3 - 1 → w j = kT k 6 j) ∧ kIs g A (kbuf k (kZ k 3 - 1) w) h') (fun E h' => h' = h ∧ E = ISE ∧ kZ k 3 = 0) := by
  refine zM.of (cc := cX1_back) (nL := 1) (ret := (some .int)) (by decide) hl (zcat rfl) (Nat.le_of_ble_eq_true rfl) ?_
  intro Z hg hz hC hE hN
  subst hg
  subst hz
  change zW Z _ _ _ 0 [some _] []
  have hst := hC.2.2.2.2.2.2.2.1
  have hB := hK.2.2.2
  have h8 : kZ k 3 ≤ 8 := hB.2.2.2.1
  obtain ⟨m, hm, b1⟩ := hK.2.2.1.2.1
  obtain ⟨f, b2, b3⟩ := hK.2.2.1.2.2.1
  have hA1 := hK.2.2.1.2.2.2.2.2.2.2.2.2.1
  have k15 : zW Z h 1 6 15 [some (.ref (A 0))] [.int (nB (decide (0 < kZ k 3)))] := by
    refine r_callS hC (c_rqS hst (decide (0 < kZ k 3))) q863 q864 q36 q865 (n := 1) (by decide +kernel) rfl (Nat.le_of_ble_eq_true rfl) (Nat.le_of_ble_eq_true rfl) rfl (Nat.le_of_ble_eq_true rfl) (cb' := 0) (sb' := 0) (by omega) (by omega) dX1_back_15 (fun E h' e => by obtain ⟨rfl, rfl, hb⟩ := e; exact r_xout hC hE (fun _ q => by cases q) ⟨rfl, rfl, by have := of_decide_eq_false hb; omega⟩) (fun v9 h9 e9 => ?_)
    obtain ⟨rfl, rfl, h2⟩ := e9
    have h2' := of_decide_eq_true h2
    refine r_aload_n hC dX1_back_18 rfl (by first | rfl | exact zisR_rf _) ?_
    refine r_get hC 0 in_X1 (ci := 0) rfl (k_led hK) (by decide) ⟨rfl, rfl, rfl⟩ q256 rfl dX1_back_19 ?_
    refine r_aload_n hC dX1_back_22 rfl (by first | rfl | exact zisR_rf _) ?_
    refine r_get hC 0 in_X1 (ci := 0) rfl (k_led hK) (by decide) ⟨rfl, rfl, rfl⟩ q256 rfl dX1_back_23 ?_
    refine r_callV hC (c_bLen hst h9 (A 1) (A 2) m (nI (kZ k 3)) b1) b1 rfl q285 q286 q287 q38 q288 (n := 0) (by decide +kernel) rfl (Nat.le_of_ble_eq_true rfl) (Nat.le_of_ble_eq_true rfl) rfl (Nat.le_of_ble_eq_true rfl) (Nat.le_refl _) (Nat.le_refl _) dX1_back_26 znx (zri ?_)
    refine r_iconst hC dX1_back_29 (v := (nI 1)) (by decide) ?_
    refine r_isubN hC dX1_back_30 h2' ?_
    refine r_callV hC (c_bDca hst h9 (A 1) (A 2) 16 (kZ k 3) (kZ k 3 - 1) f (kT k 6) m hA1.1 hA1.2 b1 b2 b3 (by omega) (by omega) (by decide)) b1 rfl q901 q902 q903 q38 q904 (n := 1) (by decide +kernel) rfl (Nat.le_of_ble_eq_true rfl) (Nat.le_of_ble_eq_true rfl) rfl (Nat.le_of_ble_eq_true rfl) (Nat.le_refl _) (Nat.le_refl _) dX1_back_31 znx (zri ?_)
    have hw2 := b3.cpy b3 (sp := kZ k 3 - 1 + 1) (dp := kZ k 3 - 1) (k := kZ k 3 - (kZ k 3 - 1 + 1)) (by omega)
    obtain ⟨hK2, hfz⟩ := hK.buf (n := kZ k 3 - 1) (m := 1) (Or.inr rfl) hw2 (by omega)
    have b1' := hK2.2.2.1.2.1
    obtain ⟨m', -, b1'⟩ := b1'
    refine r_pop hC dX1_back_34 (by first | rfl | exact zcat1 _) ?_
    refine r_aload_n hC dX1_back_35 rfl (by first | rfl | exact zisR_rf _) ?_
    refine r_get hC 0 in_X1 (ci := 0) rfl (k_led hK2) (by decide) ⟨rfl, rfl, rfl⟩ q256 rfl dX1_back_36 ?_
    refine r_callV hC (c_bLen hst _ (A 1) (A 2) m' _ b1') b1' rfl q285 q286 q287 q38 q288 (n := 0) (by decide +kernel) rfl (Nat.le_of_ble_eq_true rfl) (Nat.le_of_ble_eq_true rfl) rfl (Nat.le_of_ble_eq_true rfl) (Nat.le_refl _) (Nat.le_refl _) dX1_back_39 znx (zri ?_)
    exact r_iret hC hE rfl dX1_back_42 ⟨h2', rfl, hfz, _, fun j hj => by rw [if_neg (by omega)], hK2⟩
  have kb := zbool hC dX1_back_10 dX1_back_11 dX1_back_14 rfl rfl (by decide) k15
  refine r_aload_n hC dX1_back_0 rfl (by first | rfl | exact zisR_rf _) ?_
  refine r_get hC 0 in_X1 (ci := 0) rfl (k_led hK) (by decide) ⟨rfl, rfl, rfl⟩ q256 rfl dX1_back_1 ?_
  refine r_callV hC (c_bLen hst h (A 1) (A 2) m (nI (kZ k 3)) b1) b1 rfl q285 q286 q287 q38 q288 (n := 0) (by decide +kernel) rfl (Nat.le_of_ble_eq_true rfl) (Nat.le_of_ble_eq_true rfl) rfl (Nat.le_of_ble_eq_true rfl) (cb' := 1) (sb' := 6) (by omega) (by omega) dX1_back_4 znx (zri ?_)
  refine r_if_le hC dX1_back_7 (tgt := 14) (by decide) (fun e => kb.2 (decide_eq_false ?_)) (fun e => kb.1 (decide_eq_true ?_))
  · intro q
    exact absurd e (Int32.not_le.mpr ((nI_ltI (by decide : 0 < 2 ^ 31) (by omega)).mpr q))
  · rcases Nat.eq_zero_or_pos (kZ k 3) with q | q
    · rw [q] at e; exact absurd (by decide) e
    · exact q
theorem c_xclear (hl : l.stackTraces = false) (hK : kIs g A k h) : zM g l yX1_clearPath (ws_ yX1_clearPath cX1_clearPath 2 (some .int)) 3 64 0 0 [.ref (A 0)] h (fun u h' => u = some (.int (nI (kZ k 3))) ∧ kFz A h h' ∧ kIs g A (kbuf k 0 (kT k 6)) h') zNx := by
  refine zM.of (cc := cX1_clearPath) (nL := 2) (ret := (some .int)) (by decide) hl (zcat rfl) (Nat.le_of_ble_eq_true rfl) ?_
  intro Z hg hz hC hE hN
  subst hg
  subst hz
  change zW Z _ _ _ 0 [some _, none] []
  have hst := hC.2.2.2.2.2.2.2.1
  have hB := hK.2.2.2
  have h8 : kZ k 3 ≤ 8 := hB.2.2.2.1
  obtain ⟨m, hm, b1⟩ := hK.2.2.1.2.1
  obtain ⟨f, b2, b3⟩ := hK.2.2.1.2.2.1
  have hA1 := hK.2.2.1.2.2.2.2.2.2.2.2.2.1
  refine r_aload_n hC dX1_clearPath_0 rfl (by first | rfl | exact zisR_rf _) ?_
  refine r_get hC 0 in_X1 (ci := 0) rfl (k_led hK) (by decide) ⟨rfl, rfl, rfl⟩ q256 rfl dX1_clearPath_1 ?_
  refine r_callV hC (c_bLen hst h (A 1) (A 2) m (nI (kZ k 3)) b1) b1 rfl q285 q286 q287 q38 q288 (n := 0) (by decide +kernel) rfl (Nat.le_of_ble_eq_true rfl) (Nat.le_of_ble_eq_true rfl) rfl (Nat.le_of_ble_eq_true rfl) (Nat.le_refl _) (Nat.le_refl _) dX1_clearPath_4 znx (zri ?_)
  refine r_ist1 hC dX1_clearPath_7 ?_
  refine r_aload_n hC dX1_clearPath_8 rfl (by first | rfl | exact zisR_rf _) ?_
  refine r_get hC 0 in_X1 (ci := 0) rfl (k_led hK) (by decide) ⟨rfl, rfl, rfl⟩ q256 rfl dX1_clearPath_9 ?_
  refine r_iconst hC dX1_clearPath_12 (v := (nI 0)) (by decide) ?_
  refine r_callV hC (c_bSetl hst h (A 1) (A 2) 16 (kZ k 3) 0 f m hm hA1.1 b1 b2 (by omega) (by omega) (by decide)) b1 rfl q292 q293 q294 q38 q295 (n := 1) (by decide +kernel) rfl (Nat.le_of_ble_eq_true rfl) (Nat.le_of_ble_eq_true rfl) rfl (Nat.le_of_ble_eq_true rfl) (Nat.le_refl _) (Nat.le_refl _) dX1_clearPath_13 znx (fun v9 h9 e9 => ?_)
  obtain ⟨rfl, m', hm', rfl⟩ := e9
  obtain ⟨hK2, hfz⟩ := hK.buf (n := 0) hm' b3 (by omega)
  rw [zup_same b2] at hK2 hfz
  refine r_iload_n hC dX1_clearPath_16 rfl ?_
  exact r_iret hC hE rfl dX1_clearPath_17 ⟨rfl, hfz, hK2⟩
theorem c_xbeginR (hl : l.stackTraces = false) (hK : kIs g A k h) : zM g l yX1_beginRecount (ws_ yX1_beginRecount cX1_beginRecount 3 (some .int)) 3 64 0 0 [.ref (A 0)] h (zRi (.int (nI (kZ k 1))) (kH A (kBg k (9 + kZ k 0)) h)) zNx := by
  refine zM.of (cc := cX1_beginRecount) (nL := 3) (ret := (some .int)) (by decide) hl (zcat rfl) (Nat.le_of_ble_eq_true rfl) ?_
  intro Z hg hz hC hE hN
  subst hg
  subst hz
  change zW Z _ _ _ 0 [some _, none, none] []
  have hst := hC.2.2.2.2.2.2.2.1
  have hB := hK.2.2.2
  have h21 : kZ k 0 ≤ 21 := hB.1.2
  obtain ⟨fu, u1, u2⟩ := hK.2.2.1.2.2.2.1
  obtain ⟨fg, g1, g2⟩ := hK.2.2.1.2.2.2.2.1
  obtain ⟨mc, cc0, F, t1, t2, t3, t4, t5, -⟩ := hK.2.2.1.2.2.2.2.2.1
  have t5 : ∀ x, x < kZ k 0 → F x = .ref (A (29 + x)) := t5
  obtain ⟨mc', _, _, v1, -⟩ := hK.2.2.1.2.2.2.2.2.2.1
  have step : ∀ n, n < 9 + kZ k 0 → ∃ (hKn : kIs Z.1 A (kBg k n) (kH A (kBg k n) h)), n < 9 + kZ (kBg k n) 0 ∧ kH A (kuA (kBg k n) n 5 0) (kH A (kBg k n) h) = kH A (kBg k (n + 1)) h := by
    intro n hn
    refine ⟨hK.up (kBg_same k n) (kBg_B hB n), by rw [(kBg_same k n).1 0 (by decide)]; exact hn, ?_⟩
    rw [kBg_s]
    exact kH_kH kuA_same
  have frn : ∀ n, kFr h (kH A (kBg k n) h) := fun n => kH_fr hK (kBg_same k n) (fun _ _ q _ => q)
  have l3 : ∀ p, p ≤ kZ k 0 → ∀ x2, zW Z (kH A (kBg k (9 + p)) h) 0 0 54 [some (.ref (A 0)), some (.int (nI p)), x2] [] := by
    refine zloop (kZ k 0) (fun p ih hp x2 => ?_)
    have hKp := hK.up (kBg_same k (9 + p)) (kBg_B hB (9 + p))
    have fr := frn (9 + p)
    refine r_iload_n hC dX1_beginRecount_54 rfl ?_
    refine r_aload_n hC dX1_beginRecount_55 rfl (by first | rfl | exact zisR_rf _) ?_
    refine r_get hC 3 in_X1 (ci := 0) rfl (k_led hKp) (by decide) ⟨rfl, rfl, rfl⟩ q259 rfl dX1_beginRecount_56 ?_
    refine r_callV hC (c_lsize hst _ (A 5) (A 8) (kZ k 0) mc (fr _ _ t1 rfl)) (fr _ _ t1 rfl) rfl q622 q623 q624 q43 q625 (n := 0) (by decide +kernel) rfl (Nat.le_of_ble_eq_true rfl) (Nat.le_of_ble_eq_true rfl) rfl (Nat.le_of_ble_eq_true rfl) (Nat.le_refl _) (Nat.le_refl _) dX1_beginRecount_59 znx (zri ?_)
    refine r_icmp_geN hC dX1_beginRecount_62 (tgt := 88) (by decide) (by omega) (by omega) (fun e1 => ?_) (fun e1 => ?_)
    · obtain rfl : p = kZ k 0 := by omega
      refine r_aload_n hC dX1_beginRecount_88 rfl (by first | rfl | exact zisR_rf _) ?_
      refine r_get hC 4 in_X1 (ci := 0) rfl (k_led hKp) (by decide) ⟨rfl, rfl, rfl⟩ q260 rfl dX1_beginRecount_89 ?_
      refine r_callV hC (c_lsize hst _ (A 6) (A 9) (kZ k 1) mc' (fr _ _ v1 rfl)) (fr _ _ v1 rfl) rfl q622 q623 q624 q43 q625 (n := 0) (by decide +kernel) rfl (Nat.le_of_ble_eq_true rfl) (Nat.le_of_ble_eq_true rfl) rfl (Nat.le_of_ble_eq_true rfl) (Nat.le_refl _) (Nat.le_refl _) dX1_beginRecount_92 znx (zri ?_)
      exact r_iret hC hE rfl dX1_beginRecount_95 ⟨rfl, rfl⟩
    · obtain ⟨hKn, hj, hnx⟩ := step (9 + p) (by omega)
      refine r_aload_n hC dX1_beginRecount_65 rfl (by first | rfl | exact zisR_rf _) ?_
      refine r_get hC 3 in_X1 (ci := 0) rfl (k_led hKn) (by decide) ⟨rfl, rfl, rfl⟩ q259 rfl dX1_beginRecount_66 ?_
      refine r_iload_n hC dX1_beginRecount_69 rfl ?_
      refine r_callV hC (c_lget hst _ (A 5) (A 8) (kZ k 0) cc0 p F mc (fr _ _ t1 rfl) (fr _ _ t2 rfl) e1 t3 (by omega) (by rw [t5 p e1]; rfl)) (fr _ _ t1 rfl) rfl q626 q627 q628 q43 q629 (n := 1) (by decide +kernel) rfl (Nat.le_of_ble_eq_true rfl) (Nat.le_of_ble_eq_true rfl) rfl (Nat.le_of_ble_eq_true rfl) (Nat.le_refl _) (Nat.le_refl _) dX1_beginRecount_70 znx (zri ?_)
      rw [t5 p e1]
      have hpr := k_prj hKn (p := p) (by omega)
      refine r_castY hC hpr rfl (nm := "AllotmentLedger$Account") q110 (Or.inl (by decide +kernel)) dX1_beginRecount_73 ?_
      rw [show A (29 + p) = A (20 + (9 + p)) by rw [show 29 + p = 20 + (9 + p) by omega]]
      refine r_ast2 hC dX1_beginRecount_76 (by first | rfl | exact zisR_rf _) ?_
      refine r_aload_n hC dX1_beginRecount_77 rfl (by first | rfl | exact zisR_rf _) ?_
      refine r_iconst hC dX1_beginRecount_78 (v := 0) (by decide) ?_
      refine a_putN hC hKn 5 (host := "AllotmentLedger") hj (by decide) rfl rfl (by decide +kernel) dX1_beginRecount_79 ?_
      rw [hnx]
      refine r_inc1 hC dX1_beginRecount_82 (by first | exact (nI_1 _) | rfl) ?_
      refine r_goto hC dX1_beginRecount_85 (tgt := 54) (by decide) ?_
      exact ih e1 (by omega) _
  have l2 : ∀ p, p ≤ 3 → zW Z (kH A (kBg k (6 + p)) h) 0 0 31 [some (.ref (A 0)), some (.int (nI p)), none] [] := by
    refine zloop 3 (fun p ih hp => ?_)
    refine r_iload_n hC dX1_beginRecount_31 rfl ?_
    refine r_iconst hC dX1_beginRecount_32 (v := (nI 3)) (by decide) ?_
    first | refine r_icmp_geN hC dX1_beginRecount_33 (tgt := 52) (by decide) (by first | omega | exact hB.1 _ | exact hB.2 _ _) (by first | omega | exact hB.1 _ | exact hB.2 _ _) (fun e1 => ?_) (fun e1 => ?_) | refine r_icmp_ge hC dX1_beginRecount_33 (tgt := 52) (by decide) (fun e1 => ?_) (fun e1 => ?_)
    · obtain rfl : p = 3 := by omega
      refine r_iconst hC dX1_beginRecount_52 (v := (nI 0)) (by decide) ?_
      refine r_ist1 hC dX1_beginRecount_53 ?_
      exact l3 0 (Nat.zero_le _) _
    · obtain ⟨hKn, hj, hnx⟩ := step (6 + p) (by omega)
      have fr := frn (6 + p)
      refine r_aload_n hC dX1_beginRecount_36 rfl (by first | rfl | exact zisR_rf _) ?_
      refine r_get hC 2 in_X1 (ci := 0) rfl (k_led hKn) (by decide) ⟨rfl, rfl, rfl⟩ q258 rfl dX1_beginRecount_37 ?_
      refine r_iload_n hC dX1_beginRecount_40 rfl ?_
      refine r_ald hC 6 (fr _ _ g1 rfl) (vp_in_nI (by omega : p < 3) (by decide)) (v := .ref (A (20 + (6 + p)))) (by rw [nI_clamp (by omega), g2 p (by omega), show 26 + p = 20 + (6 + p) by omega]) dX1_beginRecount_41 (by simp) ?_
      refine r_iconst hC dX1_beginRecount_42 (v := 0) (by decide) ?_
      refine a_putN hC hKn 5 (host := "AllotmentLedger") hj (by decide) rfl rfl (by decide +kernel) dX1_beginRecount_43 ?_
      rw [hnx]
      refine r_inc1 hC dX1_beginRecount_46 (by first | exact (nI_1 _) | rfl) ?_
      refine r_goto hC dX1_beginRecount_49 (tgt := 31) (by decide) ?_
      exact ih (by omega) (by omega)
  have l1 : ∀ p, p ≤ 6 → zW Z (kH A (kBg k p) h) 0 0 7 [some (.ref (A 0)), some (.int (nI p)), none] [] := by
    refine zloop 6 (fun p ih hp => ?_)
    refine r_iload_n hC dX1_beginRecount_7 rfl ?_
    refine r_bipush hC dX1_beginRecount_8 (v := (nI 6)) (by decide) ?_
    first | refine r_icmp_geN hC dX1_beginRecount_10 (tgt := 29) (by decide) (by first | omega | exact hB.1 _ | exact hB.2 _ _) (by first | omega | exact hB.1 _ | exact hB.2 _ _) (fun e1 => ?_) (fun e1 => ?_) | refine r_icmp_ge hC dX1_beginRecount_10 (tgt := 29) (by decide) (fun e1 => ?_) (fun e1 => ?_)
    · obtain rfl : p = 6 := by omega
      refine r_iconst hC dX1_beginRecount_29 (v := (nI 0)) (by decide) ?_
      refine r_ist1 hC dX1_beginRecount_30 ?_
      exact l2 0 (Nat.zero_le _)
    · obtain ⟨hKn, hj, hnx⟩ := step p (by omega)
      have fr := frn p
      refine r_aload_n hC dX1_beginRecount_13 rfl (by first | rfl | exact zisR_rf _) ?_
      refine r_get hC 1 in_X1 (ci := 0) rfl (k_led hKn) (by decide) ⟨rfl, rfl, rfl⟩ q257 rfl dX1_beginRecount_14 ?_
      refine r_iload_n hC dX1_beginRecount_17 rfl ?_
      refine r_ald hC 6 (fr _ _ u1 rfl) (vp_in_nI (by omega : p < 6) (by decide)) (v := .ref (A (20 + p))) (by rw [nI_clamp (by omega), u2 p (by omega)]) dX1_beginRecount_18 (by simp) ?_
      refine r_iconst hC dX1_beginRecount_19 (v := 0) (by decide) ?_
      refine a_putN hC hKn 5 (host := "AllotmentLedger") hj (by decide) rfl rfl (by decide +kernel) dX1_beginRecount_20 ?_
      rw [hnx]
      refine r_inc1 hC dX1_beginRecount_23 (by first | exact (nI_1 _) | rfl) ?_
      refine r_goto hC dX1_beginRecount_26 (tgt := 7) (by decide) ?_
      exact ih (by omega) (by omega)
  refine r_aload_n hC dX1_beginRecount_0 rfl (by first | rfl | exact zisR_rf _) ?_
  refine r_iconst hC dX1_beginRecount_1 (v := 0) (by decide) ?_
  refine l_putRec hC hK q263 dX1_beginRecount_2 ?_
  refine r_iconst hC dX1_beginRecount_5 (v := (nI 0)) (by decide) ?_
  refine r_ist1 hC dX1_beginRecount_6 ?_
  exact l1 0 (Nat.zero_le _)
end X9

