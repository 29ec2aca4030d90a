/-! THE COMPONENT 10: recount, usedByFiles -/
set_option maxRecDepth 100000
def kRu (k : kS) (i : Nat) : Int32 := if kT k 2 i = 0 then kUse k i else 0
def kRl (i : Nat) (k : kS) (l : List Nat) : kS := l.foldl (fun k j => kuA k j 5 (kA k j 5 + kRu k i)) k
def kRc1 (k : kS) (i : Nat) : kS := kRl i (kuR k (nI (i + 1))) (kAc k (kT k 0 i) (kT k 1 i))
def kRcN (k : kS) (r : Nat) : Nat → kS
  | 0 => k
  | t + 1 => kRc1 (kRcN k r t) (r + t)
theorem kRl_2 (i : Nat) : ∀ (l : List Nat) (k : kS), (kRl i k l).2 = k.2
  | [], _ => rfl
  | j :: r, k => kRl_2 i r (kuA k j 5 (kA k j 5 + kRu k i))
theorem kRcN_2 (k : kS) (r t : Nat) : (kRcN k r t).2 = if t = 0 then k.2 else (kuR k (nI (r + t))).2 := by
  induction t with
  | zero => rfl
  | succ t ih =>
    rw [if_neg (by omega)]
    show (kRl (r + t) (kuR (kRcN k r t) (nI (r + t + 1))) _).2 = _
    rw [kRl_2]
    show (kuR (kRcN k r t) (nI (r + t + 1))).2 = _
    by_cases c : t = 0
    · rw [if_pos c] at ih
      unfold kuR
      rw [ih]; rfl
    · rw [if_neg c] at ih
      unfold kuR at ih ⊢
      rw [ih]; rfl
theorem kRcN_same (k : kS) (r t : Nat) : kSame k (kRcN k r t) := by
  have e := kRcN_2 k r t
  by_cases c : t = 0
  · rw [if_pos c] at e; exact kSame.of2 e
  · rw [if_neg c] at e; exact kuR_same.tr (kSame.of2 e)
theorem kRcN_B {k : kS} (hB : kB k) (r t : Nat) : kB (kRcN k r t) := by
  have e := kRcN_2 k r t
  by_cases c : t = 0
  · rw [if_pos c] at e; exact kB.of2 e hB
  · rw [if_neg c] at e; exact kB.of2 (k := kuR k (nI (r + t))) e hB
theorem kRcN_T (k : kS) (r t : Nat) : kT (kRcN k r t) = kT k := by
  have e := kRcN_2 k r t
  by_cases c : t = 0
  · rw [if_pos c] at e; exact congrArg (·.2.1) e
  · rw [if_neg c] at e; exact congrArg (·.2.1) e
theorem kRcN_n (k : kS) (r t : Nat) (h : (kN k).2 = nI r) : (kN (kRcN k r t)).2 = nI (r + t) := by
  have e := kRcN_2 k r t
  by_cases c : t = 0
  · subst c; exact h
  · rw [if_neg c] at e
    exact congrArg (·.2.2.2.2.2) e
theorem kRl_take (i : Nat) (k : kS) (l : List Nat) {t j : Nat} (h : l[t]? = some j) : kRl i k (l.take (t + 1)) = kuA (kRl i k (l.take t)) j 5 (kA (kRl i k (l.take t)) j 5 + kRu (kRl i k (l.take t)) i) := by
  rw [List.take_add_one, h]
  simp only [Option.toList_some]
  unfold kRl
  rw [List.foldl_append]
  rfl
/-- does entry i count in account j -/
def kOf (k : kS) (j i : Nat) : Bool := if j < 6 then kT k 0 i == j else if j < 9 then 6 + kT k 0 i % 3 == j else kWi k (kT k 1 i) (j - 9)
def kUr (k : kS) (j i : Nat) (s : Int32) (r : Nat) : Int32 := (List.range r).foldl (fun s r => s + if kOf k j i = true ∧ kT k 3 r = i ∧ kT k 4 r = 0 then kI k 2 r else 0) s
def kUb (k : kS) (j n : Nat) : Int32 := (List.range n).foldl (fun s i => kUr k j i (s + if kOf k j i = true ∧ kT k 2 i = 0 then kI k 0 i else 0) (kZ k 2)) 0
theorem kUr_s (k : kS) (j i : Nat) (s : Int32) (r : Nat) : kUr k j i s (r + 1) = kUr k j i s r + if kOf k j i = true ∧ kT k 3 r = i ∧ kT k 4 r = 0 then kI k 2 r else 0 := by
  unfold kUr; rw [List.range_succ, List.foldl_append]; rfl
theorem kUb_s (k : kS) (j n : Nat) : kUb k j (n + 1) = kUr k j n (kUb k j n + if kOf k j n = true ∧ kT k 2 n = 0 then kI k 0 n else 0) (kZ k 2) := by
  unfold kUb; rw [List.range_succ, List.foldl_append]; rfl
section X10
variable {g : zG} {l : Launch} {A : Nat → Nat} {k : kS} {h : zH}
theorem c_xrecount (hl : l.stackTraces = false) (hK : kIs g A k h) (hP : ∀ p, p < kZ k 0 → kPc k p) (n : Int32) (hR : (kN k).2 = -1 ∨ ∃ r, r ≤ kZ k 1 ∧ (kN k).2 = nI r) : zM g l yX1_recount (ws_ yX1_recount cX1_recount 6 (some .int)) 12 457 202 3212 [.ref (A 0), .int n] h (fun u h' => ∃ r m t, r ≤ kZ k 1 ∧ (kN k).2 = nI r ∧ n = nI m ∧ 1 ≤ m ∧ m ≤ 40 ∧ t = (if m < kZ k 1 - r then m else kZ k 1 - r) ∧ u = some (.int (nI (kZ k 1 - (r + t)))) ∧ h' = kH A (kRcN k r t) h) (fun E h' => h' = h ∧ (E = IAE ∧ kIn n 1 40 = false ∨ E = ISE ∧ kIn n 1 40 = true ∧ (kN k).2 = -1)) := by
  refine zM.of (cc := cX1_recount) (nL := 6) (ret := (some .int)) (by decide) hl (zcat rfl) (Nat.le_of_ble_eq_true rfl) ?_
  intro Z hg hz hC hE hN
  subst hg
  subst hz
  change zW Z _ _ _ 0 [some _, some _, none, none, none, none] []
  have hst := hC.2.2.2.2.2.2.2.1
  have hB := hK.2.2.2
  have h40 : kZ k 1 ≤ 40 := hB.2.1
  obtain ⟨mc, cc0, F, t1, t2, t3, t4, t5, -⟩ := hK.2.2.1.2.2.2.2.2.2.1
  have t5 : ∀ x, x < kZ k 1 → F x = .ref (A (60 + x)) := t5
  refine r_iload_n hC dX1_recount_0 rfl ?_
  refine r_iconst hC dX1_recount_1 (v := (nI 1)) (by decide) ?_
  refine r_bipush hC dX1_recount_2 (v := (nI 40)) (by decide) ?_
  refine r_callS hC (c_xin hst n (nI 1) (nI 40)) q962 q963 q36 q964 (n := 3) (by decide +kernel) rfl (Nat.le_of_ble_eq_true rfl) (Nat.le_of_ble_eq_true rfl) rfl (Nat.le_of_ble_eq_true rfl) (cb' := 202) (sb' := 3212) (by omega) (by omega) dX1_recount_4 znx (zri ?_)
  refine r_callS hC (c_rqA hst (kIn n 1 40)) q849 q850 q36 q851 (n := 1) (by decide +kernel) rfl (Nat.le_of_ble_eq_true rfl) (Nat.le_of_ble_eq_true rfl) rfl (Nat.le_of_ble_eq_true rfl) (cb' := 201) (sb' := 3206) (by omega) (by omega) dX1_recount_7 (fun E h' e => by obtain ⟨rfl, rfl, hb⟩ := e; exact r_xout hC hE (fun _ q => by cases q) ⟨rfl, Or.inl ⟨rfl, hb⟩⟩) (fun v9 h9 e9 => ?_)
  obtain ⟨rfl, rfl, h1⟩ := e9
  obtain ⟨m, hm, rfl⟩ : ∃ m, (1 ≤ m ∧ m ≤ 40) ∧ n = nI m := by
    have h1' := of_decide_eq_true h1
    have hz : zIn n 41 = true := by
      rw [← zIn_c (by decide)]
      exact decide_eq_true ⟨Int32.le_trans (by decide) h1'.1, h1'.2⟩
    obtain ⟨x, hx, rfl⟩ := zIn_of (by decide) hz
    refine ⟨x, ⟨?_, by omega⟩, rfl⟩
    exact (nI_leI (by decide : 1 < 2 ^ 31) (by omega)).mp h1'.1
  have k23 : zW Z h9 201 3206 23 [some (.ref (A 0)), some (.int (nI m)), none, none, none, none] [.int (nB (!decide ((kN k).2 = -1)))] := by
    refine r_callS hC (c_rqS hst (!decide ((kN k).2 = -1))) q863 q864 q36 q865 (n := 1) (by decide +kernel) rfl (Nat.le_of_ble_eq_true rfl) (Nat.le_of_ble_eq_true rfl) rfl (Nat.le_of_ble_eq_true rfl) (cb' := 200) (sb' := 3200) (by omega) (by omega) dX1_recount_23 (fun E h' e => by obtain ⟨rfl, rfl, hb⟩ := e; exact r_xout hC hE (fun _ q => by cases q) ⟨rfl, Or.inr ⟨rfl, h1, by simpa using hb⟩⟩) (fun v9 h9 e9 => ?_)
    obtain ⟨rfl, rfl, h2⟩ := e9
    obtain ⟨r, hr, hrr⟩ : ∃ r, r ≤ kZ k 1 ∧ (kN k).2 = nI r := hR.resolve_left (by simpa using h2)
    have lp : ∀ t, t ≤ m → r + t ≤ kZ k 1 → ∀ x3 x4 x5 cb sb, 5 * (m - t) ≤ cb → 80 * (m - t) ≤ sb → zW Z (kH A (kRcN k r t) h9) cb sb 28 [some (.ref (A 0)), some (.int (nI m)), some (.int (nI t)), x3, x4, x5] [] := by
      refine zloop m (fun t ih ht hrt x3 x4 x5 cb sb hcb hsb => ?_)
      have hs := kRcN_same k r t
      have hBt := kRcN_B hB r t
      have hKt := hK.up hs hBt
      have hTt := kRcN_T k r t
      have hnt := kRcN_n k r t hrr
      have hz : kZ (kRcN k r t) 1 = kZ k 1 := hs.1 1 (by decide)
      have hst2 : ∀ t', r + t' ≤ kZ k 1 → t' = (if m < kZ k 1 - r then m else kZ k 1 - r) → ∀ h5 cb' sb' L, h5 = kH A (kRcN k r t') h9 → L = [some (.ref (A 0)), some (.int (nI m)), some (.int (nI t')), x3, x4, x5] → zW Z h5 cb' sb' 144 L [] := by
        intro t' hrt' ht' h5 cb' sb' L e5 eL
        subst e5; subst eL
        have fr := kH_fr hK (kRcN_same k r t') (h0 := h9) (fun _ _ q _ => q)
        have hKt' := hK.up (kRcN_same k r t') (kRcN_B hB r t')
        refine r_aload_n hC dX1_recount_144 rfl (by first | rfl | exact zisR_rf _) ?_
        refine r_get hC 4 in_X1 (ci := 0) rfl (k_led hKt') (by decide) ⟨rfl, rfl, rfl⟩ q260 rfl dX1_recount_145 ?_
        refine r_callV hC (c_lsize hst _ (A 6) (A 9) (kZ k 1) mc (fr _ _ t1 rfl)) (fr _ _ t1 rfl) rfl q622 q623 q624 q43 q625 (n := 0) (by decide +kernel) rfl (Nat.le_of_ble_eq_true rfl) (Nat.le_of_ble_eq_true rfl) rfl (Nat.le_of_ble_eq_true rfl) (Nat.le_refl _) (Nat.le_refl _) dX1_recount_148 znx (zri ?_)
        refine r_aload_n hC dX1_recount_151 rfl (by first | rfl | exact zisR_rf _) ?_
        refine r_get hC 7 in_X1 (ci := 0) rfl (k_led hKt') (by decide) ⟨rfl, rfl, rfl⟩ q263 rfl dX1_recount_152 ?_
        rw [kRcN_n k r t' hrr]
        refine r_isubN hC dX1_recount_155 (by omega) ?_
        exact r_iret hC hE rfl dX1_recount_156 ⟨r, m, t', hr, hrr, rfl, hm.1, hm.2, ht', rfl, rfl⟩
      refine r_iload_n hC dX1_recount_28 rfl ?_
      refine r_iload_n hC dX1_recount_29 rfl ?_
      refine r_icmp_geN hC dX1_recount_30 (tgt := 144) (by decide) (by omega) (by omega) (fun e1 => ?_) (fun e1 => ?_)
      · exact hst2 t hrt (by split <;> omega) _ _ _ _ rfl rfl
      · skip
        have fr := kH_fr hK hs (h0 := h9) (fun _ _ q _ => q)
        refine r_aload_n hC dX1_recount_33 rfl (by first | rfl | exact zisR_rf _) ?_
        refine r_get hC 7 in_X1 (ci := 0) rfl (k_led hKt) (by decide) ⟨rfl, rfl, rfl⟩ q263 rfl dX1_recount_34 ?_
        refine r_aload_n hC dX1_recount_37 rfl (by first | rfl | exact zisR_rf _) ?_
        refine r_get hC 4 in_X1 (ci := 0) rfl (k_led hKt) (by decide) ⟨rfl, rfl, rfl⟩ q260 rfl dX1_recount_38 ?_
        refine r_callV hC (c_lsize hst _ (A 6) (A 9) (kZ k 1) mc (fr _ _ t1 rfl)) (fr _ _ t1 rfl) rfl q622 q623 q624 q43 q625 (n := 0) (by decide +kernel) rfl (Nat.le_of_ble_eq_true rfl) (Nat.le_of_ble_eq_true rfl) rfl (Nat.le_of_ble_eq_true rfl) (Nat.le_refl _) (Nat.le_refl _) dX1_recount_41 znx (zri ?_)
        rw [hnt]
        refine r_icmp_geN hC dX1_recount_44 (tgt := 144) (by decide) (by omega) (by omega) (fun e2 => ?_) (fun e2 => ?_)
        · exact hst2 t hrt (by split <;> omega) _ _ _ _ rfl rfl
        · have hi : r + t < kZ k 1 := e2
          have hi' : r + t < kZ (kRcN k r t) 1 := by rw [hz]; exact hi
          refine r_aload_n hC dX1_recount_47 rfl (by first | rfl | exact zisR_rf _) ?_
          refine r_get hC 4 in_X1 (ci := 0) rfl (k_led hKt) (by decide) ⟨rfl, rfl, rfl⟩ q260 rfl dX1_recount_48 ?_
          refine r_aload_n hC dX1_recount_51 rfl (by first | rfl | exact zisR_rf _) ?_
          refine r_get hC 7 in_X1 (ci := 0) rfl (k_led hKt) (by decide) ⟨rfl, rfl, rfl⟩ q263 rfl dX1_recount_52 ?_
          rw [hnt]
          refine r_callV hC (c_lget hst _ (A 6) (A 9) (kZ k 1) cc0 (r + t) F mc (fr _ _ t1 rfl) (fr _ _ t2 rfl) hi t3 (by omega) (by rw [t5 _ hi]; rfl)) (fr _ _ t1 rfl) rfl q626 q627 q628 q43 q629 (n := 1) (by decide +kernel) rfl (Nat.le_of_ble_eq_true rfl) (Nat.le_of_ble_eq_true rfl) rfl (Nat.le_of_ble_eq_true rfl) (Nat.le_refl _) (Nat.le_refl _) dX1_recount_55 znx (zri ?_)
          rw [t5 _ hi]
          refine r_castY hC (k_ent hKt hi') rfl (nm := "AllotmentLedger$Entry") q1037 (Or.inr rfl) dX1_recount_58 ?_
          refine r_ast3 hC dX1_recount_61 (by first | rfl | exact zisR_rf _) ?_
          refine r_aload_n hC dX1_recount_62 rfl (by first | rfl | exact zisR_rf _) ?_
          refine r_dup hC dX1_recount_63 (by first | rfl | exact zcat1 _) ?_
          refine r_get hC 7 in_X1 (ci := 0) rfl (k_led hKt) (by decide) ⟨rfl, rfl, rfl⟩ q263 rfl dX1_recount_64 ?_
          refine r_iconst hC dX1_recount_67 (v := (nI 1)) (by decide) ?_
          rw [hnt]
          first | refine r_iaddN hC dX1_recount_68 ?_ | refine r_iadd hC dX1_recount_68 ?_
          refine l_putRec hC hKt q263 dX1_recount_69 ?_
          rw [kH_kH kuR_same]
          have hsu : kSame k (kuR (kRcN k r t) (nI (r + t + 1))) := hs.tr kuR_same
          have hKu := hK.up (k' := kuR (kRcN k r t) (nI (r + t + 1))) hsu hBt
          have hiu : r + t < kZ (kuR (kRcN k r t) (nI (r + t + 1))) 1 := hi'
          have heu := hBt.2.2.2.2.1 (r + t) hi'
          have hpcu : kPc (kuR (kRcN k r t) (nI (r + t + 1))) (kT (kuR (kRcN k r t) (nI (r + t + 1))) 1 (r + t)) := (hP _ (by rw [show kT (kuR (kRcN k r t) (nI (r + t + 1))) = kT k from hTt]; exact (hB.2.2.2.2.1 _ hi).2.1)).same hsu
          refine r_aload_n hC dX1_recount_72 rfl (by first | rfl | exact zisR_rf _) ?_
          refine r_aload_n hC dX1_recount_73 rfl (by first | rfl | exact zisR_rf _) ?_
          refine r_getN hC 1 in_X5 (ci := 3) (ref := "AllotmentLedger$Entry") (nm := "owner") (ds := "I") (host := "AllotmentLedger") rfl (k_ent hKu hiu) (by decide) ⟨rfl, rfl, rfl⟩ (by decide +kernel) rfl dX1_recount_74 ?_
          refine r_aload_n hC dX1_recount_77 rfl (by first | rfl | exact zisR_rf _) ?_
          refine r_getN hC 2 in_X5 (ci := 3) (ref := "AllotmentLedger$Entry") (nm := "project") (ds := "LAllotmentLedger$Project;") (host := "AllotmentLedger") rfl (k_ent hKu hiu) (by decide) ⟨rfl, rfl, rfl⟩ (by decide +kernel) rfl dX1_recount_78 ?_
          refine r_callV hC (c_acOf hst hKu (kT (kRcN k r t) 0 (r + t)) (kT (kRcN k r t) 1 (r + t)) heu.1 heu.2.1 hpcu) (k_led hKu) rfl q1042 q1044 qs9 q36 q1045 (n := 2) (by decide +kernel) rfl (Nat.le_of_ble_eq_true rfl) (Nat.le_of_ble_eq_true rfl) rfl (Nat.le_of_ble_eq_true rfl) (cb' := (cb-5)) (sb' := (sb-80)) (by omega) (by omega) dX1_recount_81 znx (fun v9 h1 e9 => ?_)
          obtain ⟨b, c, rfl, hc, T⟩ := e9
          have hK1 := hKu.le T.1
          have hnx : kRcN k r (t + 1) = kRl (r + t) (kuR (kRcN k r t) (nI (r + t + 1))) (kAc (kRcN k r t) (kT (kRcN k r t) 0 (r + t)) (kT (kRcN k r t) 1 (r + t))) := rfl
          have hac : kAc (kuR (kRcN k r t) (nI (r + t + 1))) (kT (kRcN k r t) 0 (r + t)) (kT (kRcN k r t) 1 (r + t)) = kAc (kRcN k r t) (kT (kRcN k r t) 0 (r + t)) (kT (kRcN k r t) 1 (r + t)) := rfl
          rw [hac] at T
          have hmem : ∀ (s j : Nat), (kAc (kRcN k r t) (kT (kRcN k r t) 0 (r + t)) (kT (kRcN k r t) 1 (r + t)))[s]? = some j → j < 9 + kZ (kRcN k r t) 0 := fun s j q => kAc_lt heu.1 hBt.1.1 (List.mem_of_getElem? q)
          generalize kAc (kRcN k r t) (kT (kRcN k r t) 0 (r + t)) (kT (kRcN k r t) 1 (r + t)) = ls at T hnx hmem
          have hlen : (ls.map (fun j => A (20 + j))).length = ls.length := List.length_map _
          have lp3 : ∀ s, s ≤ ls.length → zW Z (kH A (kRl (r + t) (kuR (kRcN k r t) (nI (r + t + 1))) (ls.take s)) h1) (cb - 5) (sb - 80) 89 [some (.ref (A 0)), some (.int (nI m)), some (.int (nI t)), some (.ref (A (60 + (r + t)))), some (.ref b), some (.int (nI s))] [] := by
            refine zloop ls.length (fun s ih2 hsl => ?_)
            have e2s := kRl_2 (r + t) (ls.take s) (kuR (kRcN k r t) (nI (r + t + 1)))
            generalize hks : kRl (r + t) (kuR (kRcN k r t) (nI (r + t + 1))) (ls.take s) = ks at e2s
            have hKs := hK1.of2 e2s
            obtain ⟨mc2, e, G, a1, a2, a3, a4⟩ := T.getK hKu e2s
            rw [hlen] at a1 a3
            refine r_iload hC dX1_recount_89 rfl ?_
            refine r_aload hC dX1_recount_91 rfl (by first | rfl | exact zisR_rf _) ?_
            refine r_callV hC (c_lsize hst _ b e ls.length mc2 a1) a1 rfl q622 q623 q624 q43 q625 (n := 0) (by decide +kernel) rfl (Nat.le_of_ble_eq_true rfl) (Nat.le_of_ble_eq_true rfl) rfl (Nat.le_of_ble_eq_true rfl) (Nat.le_refl _) (Nat.le_refl _) dX1_recount_93 znx (zri ?_)
            refine r_icmp_geN hC dX1_recount_96 (tgt := 138) (by decide) (by omega) (by omega) (fun e3 => ?_) (fun e3 => ?_)
            · obtain rfl : s = ls.length := by omega
              rw [List.take_length] at hks
              rw [← hks, ← hnx]
              refine zW.to (h' := kH A (kRcN k r (t + 1)) h9) ?_ (Nat.le_refl _) (Nat.le_refl _) ?_
              · have q := kH_le (A := A) (k := kRcN k r (t + 1)) T.1
                rw [kH_kH (k := kuR (kRcN k r t) (nI (r + t + 1))) (k' := kRcN k r (t + 1)) (by rw [hnx]; exact kSame.of2 (kRl_2 _ _ _))] at q
                exact q
              · refine r_inc2 hC dX1_recount_138 (by first | exact (nI_1 _) | rfl) ?_
                refine r_goto hC dX1_recount_141 (tgt := 28) (by decide) ?_
                exact ih (by omega) (by omega) (by omega) _ _ _ (cb - 5) (sb - 80) (by omega) (by omega)
            · obtain ⟨j, hj⟩ : ∃ j, ls[s]? = some j := ⟨_, List.getElem?_eq_getElem e3⟩
              have hjm := hmem s j hj
              have hF : G s = .ref (A (20 + j)) := a4 s _ (by rw [List.getElem?_map, hj]; rfl)
              have hj4 : j < 9 + kZ ks 0 := by rw [show kZ ks = kZ (kRcN k r t) from congrArg (·.1) e2s]; exact hjm
              have hi4 : r + t < kZ ks 1 := by rw [show kZ ks = kZ (kRcN k r t) from congrArg (·.1) e2s]; exact hi'
              have h2i : kT ks 2 (r + t) < 2 := by rw [show kT ks = kT (kRcN k r t) from congrArg (·.2.1) e2s]; exact heu.2.2
              refine r_aload hC dX1_recount_99 rfl (by first | rfl | exact zisR_rf _) ?_
              refine r_iload hC dX1_recount_101 rfl ?_
              refine r_callV hC (c_lget hst _ b e ls.length c s G mc2 a1 a2 e3 a3 (by omega) (by rw [hF]; rfl)) a1 rfl q626 q627 q628 q43 q629 (n := 1) (by decide +kernel) rfl (Nat.le_of_ble_eq_true rfl) (Nat.le_of_ble_eq_true rfl) rfl (Nat.le_of_ble_eq_true rfl) (Nat.le_refl _) (Nat.le_refl _) dX1_recount_103 znx (zri ?_)
              rw [hF]
              have k128 : ∀ x, kRu ks (r + t) = x → zW Z (kH A ks h1) (cb - 5) (sb - 80) 128 [some (.ref (A 0)), some (.int (nI m)), some (.int (nI t)), some (.ref (A (60 + (r + t)))), some (.ref b), some (.int (nI s))] [.int x, .int (kA ks j 5), .ref (A (20 + j))] := by
                intro x hx
                refine r_iadd hC dX1_recount_128 ?_
                refine a_putN hC hKs 5 (host := "AllotmentLedger") hj4 (by decide) rfl rfl (by decide +kernel) dX1_recount_129 ?_
                rw [kH_kH kuA_same]
                have hnx2 := kRl_take (r + t) (kuR (kRcN k r t) (nI (r + t + 1))) ls hj
                rw [hks, hx] at hnx2
                rw [← hnx2]
                refine r_inc5 hC dX1_recount_132 (by first | exact (nI_1 _) | rfl) ?_
                refine r_goto hC dX1_recount_135 (tgt := 89) (by decide) ?_
                exact ih2 e3 (by omega)
              have hcast : ∀ kk : zW Z (kH A ks h1) (cb - 5) (sb - 80) 109 [some (.ref (A 0)), some (.int (nI m)), some (.int (nI t)), some (.ref (A (60 + (r + t)))), some (.ref b), some (.int (nI s))] [.ref (A (20 + j))], zW Z (kH A ks h1) (cb - 5) (sb - 80) 106 [some (.ref (A 0)), some (.int (nI m)), some (.int (nI t)), some (.ref (A (60 + (r + t)))), some (.ref b), some (.int (nI s))] [.ref (A (20 + j))] := fun kk => by
                rcases k_acc hKs hj4 with ⟨cj, ea⟩ | ⟨cj, ea⟩
                · exact r_castY hC ea rfl (nm := "AllotmentLedger$Account") q110 (Or.inr rfl) dX1_recount_106 kk
                · exact r_castY hC ea rfl (nm := "AllotmentLedger$Account") q110 (Or.inl (by decide +kernel)) dX1_recount_106 kk
              refine hcast ?_
              refine r_dup hC dX1_recount_109 (by first | rfl | exact zcat1 _) ?_
              refine a_getN hC hKs 5 (host := "AllotmentLedger") hj4 (by decide) rfl rfl (by decide +kernel) dX1_recount_110 ?_
              refine r_aload_n hC dX1_recount_113 rfl (by first | rfl | exact zisR_rf _) ?_
              refine r_getN hC 5 in_X5 (ci := 3) (ref := "AllotmentLedger$Entry") (nm := "isDeleted") (ds := "Z") (host := "AllotmentLedger") rfl (k_ent hKs hi4) (by decide) ⟨rfl, rfl, rfl⟩ (by decide +kernel) rfl dX1_recount_114 ?_
              refine r_if_eqN hC dX1_recount_117 (tgt := 124) (by decide) (by omega) (fun e4 => ?_) (fun e4 => ?_)
              · refine r_aload_n hC dX1_recount_124 rfl (by first | rfl | exact zisR_rf _) ?_
                refine r_callV hC (c_uses hst hKs (r + t) hi4) (k_ent hKs hi4) rfl q1047 q1048 q1049 q67 q1050 (n := 0) (by decide +kernel) rfl (Nat.le_of_ble_eq_true rfl) (Nat.le_of_ble_eq_true rfl) rfl (Nat.le_of_ble_eq_true rfl) (Nat.le_refl _) (Nat.le_refl _) dX1_recount_125 znx (zri ?_)
                exact k128 _ (if_pos e4)
              · refine r_iconst hC dX1_recount_120 (v := 0) (by decide) ?_
                refine r_goto hC dX1_recount_121 (tgt := 128) (by decide) ?_
                exact k128 _ (if_neg e4)
          refine r_ast4 hC dX1_recount_84 (by first | rfl | exact zisR_rf _) ?_
          refine r_iconst hC dX1_recount_86 (v := (nI 0)) (by decide) ?_
          refine r_ist5 hC dX1_recount_87 ?_
          have h00 := lp3 0 (Nat.zero_le _)
          rw [show kH A (kRl (r + t) (kuR (kRcN k r t) (nI (r + t + 1))) (ls.take 0)) h1 = h1 from kH_id hK1] at h00
          exact h00
    refine r_iconst hC dX1_recount_26 (v := (nI 0)) (by decide) ?_
    refine r_ist2 hC dX1_recount_27 ?_
    have h00 := lp 0 (Nat.zero_le _) (by omega) none none none 200 3200 (by omega) (by omega)
    rw [show kH A (kRcN k r 0) h9 = h9 from kH_id hK] at h00
    exact h00
  have kb := zbool hC dX1_recount_18 dX1_recount_19 dX1_recount_22 rfl rfl (by decide) k23
  refine r_aload_n hC dX1_recount_10 rfl (by first | rfl | exact zisR_rf _) ?_
  refine r_get hC 7 in_X1 (ci := 0) rfl (k_led hK) (by decide) ⟨rfl, rfl, rfl⟩ q263 rfl dX1_recount_11 ?_
  refine r_iconst hC dX1_recount_14 (v := -1) (by decide) ?_
  refine r_icmp_eq hC dX1_recount_15 (tgt := 22) (by decide) (fun e => kb.2 ?_) (fun e => kb.1 ?_)
  · have e' : (kN k).2 = -1 := e
    simp [e']
  · have e' : ¬ (kN k).2 = -1 := e
    simp [e']
theorem c_xubf (hl : l.stackTraces = false) (hK : kIs g A k h) (kd n : Int32) : zM g l yX1_usedByFiles (ws_ yX1_usedByFiles cX1_usedByFiles 10 (some .int)) 11 434 1 6 [.ref (A 0), .int kd, .int n] h (fun u h' => h' = h ∧ ∃ j, kAo k kd n = some j ∧ u = some (.int (kUb k j (kZ k 1)))) (fun E h' => E = IOOB ∧ h' = h ∧ kAo k kd n = none) := by
  refine zM.of (cc := cX1_usedByFiles) (nL := 10) (ret := (some .int)) (by decide) hl (zcat rfl) (Nat.le_of_ble_eq_true rfl) ?_
  intro Z hg hz hC hE hN
  subst hg
  subst hz
  change zW Z _ _ _ 0 [some _, some _, some _, none, none, none, none, none, none, none] []
  have hst := hC.2.2.2.2.2.2.2.1
  have hB := hK.2.2.2
  have h21 : kZ k 0 ≤ 21 := hB.1.2
  have h40 : kZ k 1 ≤ 40 := hB.2.1
  have h30 : kZ k 2 ≤ 30 := hB.2.2.1
  obtain ⟨fu, u1, u2⟩ := hK.2.2.1.2.2.2.1
  obtain ⟨fg, g1, g2⟩ := hK.2.2.1.2.2.2.2.1
  obtain ⟨mp, cp, Fp, p1, p2, p3, p4, p5, -⟩ := hK.2.2.1.2.2.2.2.2.1
  have p5 : ∀ x, x < kZ k 0 → Fp x = .ref (A (29 + x)) := p5
  obtain ⟨me, ce, Fe, q1, q2, q3, q4, q5, -⟩ := hK.2.2.1.2.2.2.2.2.2.1
  have q5 : ∀ x, x < kZ k 1 → Fe x = .ref (A (60 + x)) := q5
  obtain ⟨mr, cr, Fr, r1, r2, r3, r4, r5, -⟩ := hK.2.2.1.2.2.2.2.2.2.2.1
  have r5 : ∀ x, x < kZ k 2 → Fr x = .ref (A (100 + x)) := r5
  refine r_aload_n hC dX1_usedByFiles_0 rfl (by first | rfl | exact zisR_rf _) ?_
  refine r_iload_n hC dX1_usedByFiles_1 rfl ?_
  refine r_iload_n hC dX1_usedByFiles_2 rfl ?_
  refine r_callV hC (c_acAt hst hK kd n) (k_led hK) rfl q1206 q1208 qs14 q36 q1209 (n := 2) (by decide +kernel) rfl (Nat.le_of_ble_eq_true rfl) (Nat.le_of_ble_eq_true rfl) rfl (Nat.le_of_ble_eq_true rfl) (cb' := 0) (sb' := 0) (by omega) (by omega) dX1_usedByFiles_3 (fun E h' e => by obtain ⟨rfl, rfl, hb⟩ := e; exact r_xout hC hE (fun _ q => by cases q) ⟨rfl, rfl, hb⟩) (fun v9 h9 e9 => ?_)
  obtain ⟨rfl, j, hj, rfl⟩ := e9
  have hjl := kAo_lt hj hB.1.2 hB.1.1
  -- the outer loop
  have lp : ∀ i, i ≤ kZ k 1 → ∀ x6 x7 x8 x9, zW Z h9 0 0 13 [some (.ref (A 0)), some (.int kd), some (.int n), some (.ref (A (20 + j))), some (.int (kUb k j i)), some (.int (nI i)), x6, x7, x8, x9] [] := by
    refine zloop (kZ k 1) (fun i ih hi x6 x7 x8 x9 => ?_)
    refine r_iload hC dX1_usedByFiles_13 rfl ?_
    refine r_aload_n hC dX1_usedByFiles_15 rfl (by first | rfl | exact zisR_rf _) ?_
    refine r_get hC 4 in_X1 (ci := 0) rfl (k_led hK) (by decide) ⟨rfl, rfl, rfl⟩ q260 rfl dX1_usedByFiles_16 ?_
    refine r_callV hC (c_lsize hst _ (A 6) (A 9) (kZ k 1) me q1) q1 rfl q622 q623 q624 q43 q625 (n := 0) (by decide +kernel) rfl (Nat.le_of_ble_eq_true rfl) (Nat.le_of_ble_eq_true rfl) rfl (Nat.le_of_ble_eq_true rfl) (Nat.le_refl _) (Nat.le_refl _) dX1_usedByFiles_19 znx (zri ?_)
    refine r_icmp_geN hC dX1_usedByFiles_22 (tgt := 220) (by decide) (by omega) (by omega) (fun e1 => ?_) (fun e1 => ?_)
    · obtain rfl : i = kZ k 1 := by omega
      refine r_iload hC dX1_usedByFiles_220 rfl ?_
      exact r_iret hC hE rfl dX1_usedByFiles_222 ⟨rfl, j, hj, rfl⟩
    · have hei := hB.2.2.2.2.1 i e1
      have hent := k_ent hK e1
      -- the inner loop
      have lp2 : ∀ s0 : Int32, s0 = kUb k j i + (if kOf k j i = true ∧ kT k 2 i = 0 then kI k 0 i else 0) → ∀ r, r ≤ kZ k 2 → ∀ y9, zW Z h9 0 0 145 [some (.ref (A 0)), some (.int kd), some (.int n), some (.ref (A (20 + j))), some (.int (kUr k j i s0 r)), some (.int (nI i)), some (.ref (A (60 + i))), some (.int (nB (kOf k j i))), some (.int (nI r)), y9] [] := by
        intro s0 hs0
        refine zloop (kZ k 2) (fun r ih2 hr y9 => ?_)
        refine r_iload hC dX1_usedByFiles_145 rfl ?_
        refine r_aload_n hC dX1_usedByFiles_147 rfl (by first | rfl | exact zisR_rf _) ?_
        refine r_get hC 5 in_X1 (ci := 0) rfl (k_led hK) (by decide) ⟨rfl, rfl, rfl⟩ q261 rfl dX1_usedByFiles_148 ?_
        refine r_callV hC (c_lsize hst _ (A 7) (A 10) (kZ k 2) mr r1) r1 rfl q622 q623 q624 q43 q625 (n := 0) (by decide +kernel) rfl (Nat.le_of_ble_eq_true rfl) (Nat.le_of_ble_eq_true rfl) rfl (Nat.le_of_ble_eq_true rfl) (Nat.le_refl _) (Nat.le_refl _) dX1_usedByFiles_151 znx (zri ?_)
        refine r_icmp_geN hC dX1_usedByFiles_154 (tgt := 214) (by decide) (by omega) (by omega) (fun e2 => ?_) (fun e2 => ?_)
        · obtain rfl : r = kZ k 2 := by omega
          have hn := kUb_s k j i
          rw [← hs0] at hn
          rw [← hn]
          refine r_inc5 hC dX1_usedByFiles_214 (by first | exact (nI_1 _) | rfl) ?_
          refine r_goto hC dX1_usedByFiles_217 (tgt := 13) (by decide) ?_
          exact ih e1 (by omega) _ _ _ _
        · have hrb := hB.2.2.2.2.2.1 r e2
          have hres := k_res hK e2
          have k205 : ∀ x, (if kOf k j i = true ∧ kT k 3 r = i ∧ kT k 4 r = 0 then kI k 2 r else 0) = x → zW Z h9 0 0 205 [some (.ref (A 0)), some (.int kd), some (.int n), some (.ref (A (20 + j))), some (.int (kUr k j i s0 r)), some (.int (nI i)), some (.ref (A (60 + i))), some (.int (nB (kOf k j i))), some (.int (nI r)), some (.ref (A (100 + r)))] [.int x, .int (kUr k j i s0 r)] := by
            intro x hx
            refine r_iadd hC dX1_usedByFiles_205 ?_
            have hn := kUr_s k j i s0 r
            rw [hx] at hn
            rw [← hn]
            refine r_ist4 hC dX1_usedByFiles_206 ?_
            refine r_inc8 hC dX1_usedByFiles_208 (by first | exact (nI_1 _) | rfl) ?_
            refine r_goto hC dX1_usedByFiles_211 (tgt := 145) (by decide) ?_
            exact ih2 e2 (by omega) _
          refine r_aload_n hC dX1_usedByFiles_157 rfl (by first | rfl | exact zisR_rf _) ?_
          refine r_get hC 5 in_X1 (ci := 0) rfl (k_led hK) (by decide) ⟨rfl, rfl, rfl⟩ q261 rfl dX1_usedByFiles_158 ?_
          refine r_iload hC dX1_usedByFiles_161 rfl ?_
          refine r_callV hC (c_lget hst _ (A 7) (A 10) (kZ k 2) cr r Fr mr r1 r2 e2 r3 (by omega) (by rw [r5 r e2]; rfl)) r1 rfl q626 q627 q628 q43 q629 (n := 1) (by decide +kernel) rfl (Nat.le_of_ble_eq_true rfl) (Nat.le_of_ble_eq_true rfl) rfl (Nat.le_of_ble_eq_true rfl) (Nat.le_refl _) (Nat.le_refl _) dX1_usedByFiles_163 znx (zri ?_)
          rw [r5 r e2]
          refine r_castY hC hres rfl (nm := "AllotmentLedger$Reservation") q1160 (Or.inr rfl) dX1_usedByFiles_166 ?_
          refine r_ast9 hC dX1_usedByFiles_169 (by first | rfl | exact zisR_rf _) ?_
          refine r_iload hC dX1_usedByFiles_171 rfl ?_
          refine r_iload hC dX1_usedByFiles_173 rfl ?_
          refine r_if_eqB hC dX1_usedByFiles_175 (tgt := 204) (by decide) (fun e3 => ?_) (fun e3 => ?_)
          · refine r_iconst hC dX1_usedByFiles_204 (v := 0) (by decide) ?_
            exact k205 0 (if_neg (fun q => by rw [e3] at q; exact absurd q.1 (by decide)))
          · skip
            refine r_aload hC dX1_usedByFiles_178 rfl (by first | rfl | exact zisR_rf _) ?_
            refine r_getN hC 0 in_X6 (ci := 4) (ref := "AllotmentLedger$Reservation") (nm := "entry") (ds := "LAllotmentLedger$Entry;") (host := "AllotmentLedger") rfl hres (by decide) ⟨rfl, rfl, rfl⟩ (by decide +kernel) rfl dX1_usedByFiles_180 ?_
            refine r_aload hC dX1_usedByFiles_183 rfl (by first | rfl | exact zisR_rf _) ?_
            refine r_acmp_ne hC dX1_usedByFiles_185 (tgt := 204) (by decide) (x := some (A (60 + kT k 3 r))) (y := some (A (60 + i))) rfl rfl (fun e4 => ?_) (fun e4 => ?_)
            · refine r_iconst hC dX1_usedByFiles_204 (v := 0) (by decide) ?_
              exact k205 0 (if_neg (fun q => e4 (by rw [q.2.1])))
            · have heq : kT k 3 r = i := by
                have := hK.2.1 _ _ (kni hrb.1) (kni e1) (Option.some.inj e4)
                omega
              refine r_aload hC dX1_usedByFiles_188 rfl (by first | rfl | exact zisR_rf _) ?_
              refine r_getN hC 2 in_X6 (ci := 4) (ref := "AllotmentLedger$Reservation") (nm := "isClosed") (ds := "Z") (host := "AllotmentLedger") rfl hres (by decide) ⟨rfl, rfl, rfl⟩ (by decide +kernel) rfl dX1_usedByFiles_190 ?_
              refine r_if_neN hC dX1_usedByFiles_193 (tgt := 204) (by decide) (by omega) (fun e5 => ?_) (fun e5 => ?_)
              · refine r_iconst hC dX1_usedByFiles_204 (v := 0) (by decide) ?_
                exact k205 0 (if_neg (fun q => e5 q.2.2))
              · refine r_aload hC dX1_usedByFiles_196 rfl (by first | rfl | exact zisR_rf _) ?_
                refine r_getN hC 1 in_X6 (ci := 4) (ref := "AllotmentLedger$Reservation") (nm := "blocks") (ds := "I") (host := "AllotmentLedger") rfl hres (by decide) ⟨rfl, rfl, rfl⟩ (by decide +kernel) rfl dX1_usedByFiles_198 ?_
                refine r_goto hC dX1_usedByFiles_201 (tgt := 205) (by decide) ?_
                exact k205 _ (if_pos ⟨e3, heq, e5⟩)
      have k139 : ∀ x, (if kOf k j i = true ∧ kT k 2 i = 0 then kI k 0 i else 0) = x → zW Z h9 0 0 139 [some (.ref (A 0)), some (.int kd), some (.int n), some (.ref (A (20 + j))), some (.int (kUb k j i)), some (.int (nI i)), some (.ref (A (60 + i))), some (.int (nB (kOf k j i))), x8, x9] [.int x, .int (kUb k j i)] := by
        intro x hx
        refine r_iadd hC dX1_usedByFiles_139 ?_
        refine r_ist4 hC dX1_usedByFiles_140 ?_
        refine r_iconst hC dX1_usedByFiles_142 (v := (nI 0)) (by decide) ?_
        refine r_ist8 hC dX1_usedByFiles_143 ?_
        exact lp2 _ (by rw [hx]) 0 (Nat.zero_le _) _
      have k113 : zW Z h9 0 0 113 [some (.ref (A 0)), some (.int kd), some (.int n), some (.ref (A (20 + j))), some (.int (kUb k j i)), some (.int (nI i)), some (.ref (A (60 + i))), x7, x8, x9] [.int (nB (kOf k j i))] := by
        refine r_ist7 hC dX1_usedByFiles_113 ?_
        refine r_iload hC dX1_usedByFiles_115 rfl ?_
        refine r_iload hC dX1_usedByFiles_117 rfl ?_
        refine r_if_eqB hC dX1_usedByFiles_119 (tgt := 138) (by decide) (fun e3 => ?_) (fun e3 => ?_)
        · refine r_iconst hC dX1_usedByFiles_138 (v := 0) (by decide) ?_
          exact k139 0 (if_neg (fun q => by rw [e3] at q; exact absurd q.1 (by decide)))
        · skip
          refine r_aload hC dX1_usedByFiles_122 rfl (by first | rfl | exact zisR_rf _) ?_
          refine r_getN hC 5 in_X5 (ci := 3) (ref := "AllotmentLedger$Entry") (nm := "isDeleted") (ds := "Z") (host := "AllotmentLedger") rfl hent (by decide) ⟨rfl, rfl, rfl⟩ (by decide +kernel) rfl dX1_usedByFiles_124 ?_
          refine r_if_neN hC dX1_usedByFiles_127 (tgt := 138) (by decide) (by omega) (fun e5 => ?_) (fun e5 => ?_)
          · refine r_iconst hC dX1_usedByFiles_138 (v := 0) (by decide) ?_
            exact k139 0 (if_neg (fun q => e5 q.2))
          · refine r_aload hC dX1_usedByFiles_130 rfl (by first | rfl | exact zisR_rf _) ?_
            refine r_getN hC 3 in_X5 (ci := 3) (ref := "AllotmentLedger$Entry") (nm := "blocks") (ds := "I") (host := "AllotmentLedger") rfl hent (by decide) ⟨rfl, rfl, rfl⟩ (by decide +kernel) rfl dX1_usedByFiles_132 ?_
            refine r_goto hC dX1_usedByFiles_135 (tgt := 139) (by decide) ?_
            exact k139 _ (if_pos ⟨e3, e5⟩)
      refine r_aload_n hC dX1_usedByFiles_25 rfl (by first | rfl | exact zisR_rf _) ?_
      refine r_get hC 4 in_X1 (ci := 0) rfl (k_led hK) (by decide) ⟨rfl, rfl, rfl⟩ q260 rfl dX1_usedByFiles_26 ?_
      refine r_iload hC dX1_usedByFiles_29 rfl ?_
      refine r_callV hC (c_lget hst _ (A 6) (A 9) (kZ k 1) ce i Fe me q1 q2 e1 q3 (by omega) (by rw [q5 i e1]; rfl)) q1 rfl q626 q627 q628 q43 q629 (n := 1) (by decide +kernel) rfl (Nat.le_of_ble_eq_true rfl) (Nat.le_of_ble_eq_true rfl) rfl (Nat.le_of_ble_eq_true rfl) (Nat.le_refl _) (Nat.le_refl _) dX1_usedByFiles_31 znx (zri ?_)
      rw [q5 i e1]
      refine r_castY hC hent rfl (nm := "AllotmentLedger$Entry") q1037 (Or.inr rfl) dX1_usedByFiles_34 ?_
      refine r_ast6 hC dX1_usedByFiles_37 (by first | rfl | exact zisR_rf _) ?_
      refine r_iload_n hC dX1_usedByFiles_39 rfl ?_
      have hcases : (kd = 0 ∧ j < 6) ∨ (¬ kd = 0 ∧ kd = 1 ∧ 6 ≤ j ∧ j < 9) ∨ (¬ kd = 0 ∧ ¬ kd = 1 ∧ ∃ x, x < kZ k 0 ∧ n = nI x ∧ j = 9 + x) := by
        have hj' := hj
        unfold kAo at hj'
        split at hj'
        · split at hj'
          · rename_i c0 c1
            obtain ⟨x, hx, e⟩ := zIn_of (by decide) c1
            cases hj'
            exact Or.inl ⟨c0, by rw [e, nI_clamp (by omega)]; exact hx⟩
          · cases hj'
        · split at hj'
          · split at hj'
            · rename_i c0 c1 c2
              obtain ⟨x, hx, e⟩ := zIn_of (by decide) c2
              cases hj'
              exact Or.inr (Or.inl ⟨c0, c1, by omega, by rw [e, nI_clamp (by omega)]; omega⟩)
            · cases hj'
          · split at hj'
            · split at hj'
              · rename_i c0 c1 c2 c3
                obtain ⟨x, hx, e⟩ := zIn_of (by omega) c3
                cases hj'
                exact Or.inr (Or.inr ⟨c0, c1, x, hx, e, by rw [e, nI_clamp (by omega)]⟩)
              · cases hj'
            · cases hj'
      refine r_if_ne hC dX1_usedByFiles_40 (tgt := 65) (by decide) (fun e3 => ?_) (fun e3 => ?_)
      · refine r_iload_n hC dX1_usedByFiles_65 rfl ?_
        refine r_iconst hC dX1_usedByFiles_66 (v := (nI 1)) (by decide) ?_
        refine r_icmp_ne hC dX1_usedByFiles_67 (tgt := 94) (by decide) (fun e4 => ?_) (fun e4 => ?_)
        · have e4' : ¬ kd = 1 := e4
          obtain ⟨x, hx, rfl, rfl⟩ : ∃ x, x < kZ k 0 ∧ n = nI x ∧ j = 9 + x := by
            rcases hcases with c | c | c
            · exact absurd c.1 e3
            · exact absurd c.2.1 e4'
            · exact c.2.2
          have hof : kOf k (9 + x) i = kWi k (kT k 1 i) x := by
            unfold kOf; rw [if_neg (by omega), if_neg (by omega), show 9 + x - 9 = x by omega]
          refine r_aload hC dX1_usedByFiles_94 rfl (by first | rfl | exact zisR_rf _) ?_
          refine r_getN hC 2 in_X5 (ci := 3) (ref := "AllotmentLedger$Entry") (nm := "project") (ds := "LAllotmentLedger$Project;") (host := "AllotmentLedger") rfl hent (by decide) ⟨rfl, rfl, rfl⟩ (by decide +kernel) rfl dX1_usedByFiles_96 ?_
          refine r_aload_n hC dX1_usedByFiles_99 rfl (by first | rfl | exact zisR_rf _) ?_
          refine r_get hC 3 in_X1 (ci := 0) rfl (k_led hK) (by decide) ⟨rfl, rfl, rfl⟩ q259 rfl dX1_usedByFiles_100 ?_
          refine r_iload_n hC dX1_usedByFiles_103 rfl ?_
          refine r_callV hC (c_lget hst _ (A 5) (A 8) (kZ k 0) cp x Fp mp p1 p2 hx p3 (by omega) (by rw [p5 x hx]; rfl)) p1 rfl q626 q627 q628 q43 q629 (n := 1) (by decide +kernel) rfl (Nat.le_of_ble_eq_true rfl) (Nat.le_of_ble_eq_true rfl) rfl (Nat.le_of_ble_eq_true rfl) (Nat.le_refl _) (Nat.le_refl _) dX1_usedByFiles_104 znx (zri ?_)
          rw [p5 x hx]
          refine r_castY hC (k_prj hK hx) rfl (nm := "AllotmentLedger$Project") q171 (Or.inr rfl) dX1_usedByFiles_107 ?_
          refine r_callV hC (c_pWithin hst hK (kT k 1 i) x hei.2.1 hx) (k_prj hK hei.2.1) rfl q983 q984 q985 q45 q986 (n := 1) (by decide +kernel) rfl (Nat.le_of_ble_eq_true rfl) (Nat.le_of_ble_eq_true rfl) rfl (Nat.le_of_ble_eq_true rfl) (Nat.le_refl _) (Nat.le_refl _) dX1_usedByFiles_110 znx (zri ?_)
          rw [← hof]
          exact k113
        · have e4' : kd = 1 := e4
          have hj69 : 6 ≤ j ∧ j < 9 := by
            rcases hcases with c | c | c
            · exact absurd c.1 e3
            · exact c.2.2
            · exact absurd e4' c.2.1
          have hof : kOf k j i = (6 + kT k 0 i % 3 == j) := by
            unfold kOf; rw [if_neg (by omega), if_pos (by omega)]
          have kb2 : kOf k j i = false → zW Z h9 0 0 90 [some (.ref (A 0)), some (.int kd), some (.int n), some (.ref (A (20 + j))), some (.int (kUb k j i)), some (.int (nI i)), some (.ref (A (60 + i))), x7, x8, x9] [] := fun q => by
            refine r_iconst hC dX1_usedByFiles_90 (v := (nI 0)) (by decide) ?_
            refine r_goto hC dX1_usedByFiles_91 (tgt := 113) (by decide) ?_
            have := k113
            rw [q] at this
            exact this
          have kb1 : kOf k j i = true → zW Z h9 0 0 86 [some (.ref (A 0)), some (.int kd), some (.int n), some (.ref (A (20 + j))), some (.int (kUb k j i)), some (.int (nI i)), some (.ref (A (60 + i))), x7, x8, x9] [] := fun q => by
            refine r_iconst hC dX1_usedByFiles_86 (v := (nI 1)) (by decide) ?_
            refine r_goto hC dX1_usedByFiles_87 (tgt := 113) (by decide) ?_
            have := k113
            rw [q] at this
            exact this
          refine r_aload_n hC dX1_usedByFiles_70 rfl (by first | rfl | exact zisR_rf _) ?_
          refine r_get hC 2 in_X1 (ci := 0) rfl (k_led hK) (by decide) ⟨rfl, rfl, rfl⟩ q258 rfl dX1_usedByFiles_71 ?_
          refine r_aload hC dX1_usedByFiles_74 rfl (by first | rfl | exact zisR_rf _) ?_
          refine r_getN hC 1 in_X5 (ci := 3) (ref := "AllotmentLedger$Entry") (nm := "owner") (ds := "I") (host := "AllotmentLedger") rfl hent (by decide) ⟨rfl, rfl, rfl⟩ (by decide +kernel) rfl dX1_usedByFiles_76 ?_
          refine r_iconst hC dX1_usedByFiles_79 (v := (nI 3)) (by decide) ?_
          refine r_iremN hC dX1_usedByFiles_80 (by first | omega | exact hB.1 _ | exact hB.2 _ _) (by decide) (by decide) ?_
          refine r_ald hC 6 g1 (vp_in_nI (by omega : kT k 0 i % 3 < 3) (by decide)) (v := .ref (A (20 + (6 + kT k 0 i % 3)))) (by rw [nI_clamp (by omega), g2 _ (by omega), show 26 + kT k 0 i % 3 = 20 + (6 + kT k 0 i % 3) by omega]) dX1_usedByFiles_81 (by simp) ?_
          refine r_aload_n hC dX1_usedByFiles_82 rfl (by first | rfl | exact zisR_rf _) ?_
          refine r_acmp_ne hC dX1_usedByFiles_83 (tgt := 90) (by decide) (x := some (A (20 + (6 + kT k 0 i % 3)))) (y := some (A (20 + j))) rfl rfl (fun e5 => kb2 ?_) (fun e5 => kb1 ?_)
          · rw [hof]
            exact beq_eq_false_iff_ne.mpr (fun q => e5 (by rw [q]))
          · rw [hof]
            have := hK.2.1 _ _ (kna (j := 6 + kT k 0 i % 3) (by omega)) (kna hjl) (Option.some.inj e5)
            exact beq_iff_eq.mpr (by omega)
      · have hj6 : j < 6 := by
          rcases hcases with c | c | c
          · exact c.2
          · exact absurd e3 c.1
          · exact absurd e3 c.1
        have hof : kOf k j i = (kT k 0 i == j) := by
          unfold kOf; rw [if_pos hj6]
        have kb2 : kOf k j i = false → zW Z h9 0 0 61 [some (.ref (A 0)), some (.int kd), some (.int n), some (.ref (A (20 + j))), some (.int (kUb k j i)), some (.int (nI i)), some (.ref (A (60 + i))), x7, x8, x9] [] := fun q => by
          refine r_iconst hC dX1_usedByFiles_61 (v := (nI 0)) (by decide) ?_
          refine r_goto hC dX1_usedByFiles_62 (tgt := 113) (by decide) ?_
          have := k113
          rw [q] at this
          exact this
        have kb1 : kOf k j i = true → zW Z h9 0 0 57 [some (.ref (A 0)), some (.int kd), some (.int n), some (.ref (A (20 + j))), some (.int (kUb k j i)), some (.int (nI i)), some (.ref (A (60 + i))), x7, x8, x9] [] := fun q => by
          refine r_iconst hC dX1_usedByFiles_57 (v := (nI 1)) (by decide) ?_
          refine r_goto hC dX1_usedByFiles_58 (tgt := 113) (by decide) ?_
          have := k113
          rw [q] at this
          exact this
        refine r_aload_n hC dX1_usedByFiles_43 rfl (by first | rfl | exact zisR_rf _) ?_
        refine r_get hC 1 in_X1 (ci := 0) rfl (k_led hK) (by decide) ⟨rfl, rfl, rfl⟩ q257 rfl dX1_usedByFiles_44 ?_
        refine r_aload hC dX1_usedByFiles_47 rfl (by first | rfl | exact zisR_rf _) ?_
        refine r_getN hC 1 in_X5 (ci := 3) (ref := "AllotmentLedger$Entry") (nm := "owner") (ds := "I") (host := "AllotmentLedger") rfl hent (by decide) ⟨rfl, rfl, rfl⟩ (by decide +kernel) rfl dX1_usedByFiles_49 ?_
        refine r_ald hC 6 u1 (vp_in_nI hei.1 (by decide)) (v := .ref (A (20 + kT k 0 i))) (by rw [nI_clamp (by omega), u2 _ hei.1]) dX1_usedByFiles_52 (by simp) ?_
        refine r_aload_n hC dX1_usedByFiles_53 rfl (by first | rfl | exact zisR_rf _) ?_
        refine r_acmp_ne hC dX1_usedByFiles_54 (tgt := 61) (by decide) (x := some (A (20 + kT k 0 i))) (y := some (A (20 + j))) rfl rfl (fun e5 => kb2 ?_) (fun e5 => kb1 ?_)
        · rw [hof]
          exact beq_eq_false_iff_ne.mpr (fun q => e5 (by rw [q]))
        · rw [hof]
          have := hK.2.1 _ _ (kna (j := kT k 0 i) (by omega)) (kna hjl) (Option.some.inj e5)
          exact beq_iff_eq.mpr (by omega)
  refine r_ast3 hC dX1_usedByFiles_6 (by first | rfl | exact zisR_rf _) ?_
  refine r_iconst hC dX1_usedByFiles_7 (v := (nI 0)) (by decide) ?_
  refine r_ist4 hC dX1_usedByFiles_8 ?_
  refine r_iconst hC dX1_usedByFiles_10 (v := (nI 0)) (by decide) ?_
  refine r_ist5 hC dX1_usedByFiles_11 ?_
  exact lp 0 (Nat.zero_le _) _ _ _ _
end X10

