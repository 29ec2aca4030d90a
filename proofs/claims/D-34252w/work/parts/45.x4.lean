/-! THE COMPONENT 4: counting, looking, changing, barring; places of accounts, projects, entries -/
set_option maxRecDepth 100000
def kAd (k : kS) (j : Nat) (u s r : Int32) : kS := kuA (kuA (kuA k j 3 (kA k j 3 + u)) j 4 (kA k j 4 + s)) j 5 (kA k j 5 + r)
def kCr (k : kS) (i : Nat) (s : Int32) : Int32 := if nI i < (kN k).2 then s * kUse k i else 0
def kCl (i : Nat) (s : Int32) (k : kS) (l : List Nat) : kS := l.foldl (fun k j => kAd k j (s * kUse k i) s (kCr k i s)) k
def kCnt (k : kS) (i : Nat) (s : Int32) : kS := kCl i s k (kAc k (kT k 0 i) (kT k 1 i))
def kLn (k : kS) (n : Nat) : kS := (List.range n).foldl (fun k j => kLk k j (kN k).1) k
def kLa (k : kS) : kS := kLn k (9 + kZ k 0)
def kCh1 (k : kS) (i : Nat) (b d : Int32) : kS := kuI (kuI k 0 i (kI k 0 i + b)) 1 i (kI k 1 i + d)
def kChg (k : kS) (i : Nat) (b d : Int32) : kS := kLa (kCnt (kCh1 (kCnt k i (-1)) i b d) i 1)
def kCa (k : kS) (s : Int32) (n : Nat) : kS := (List.range n).foldl (fun k i => if kT k 2 i = 0 then kCnt k i s else k) k
def kBar (k : kS) (more : Int32) : List Nat → Nat → Int32
  | [], _ => -1
  | j :: r, n => if kBb k j more (kN k).1 then nI n else kBar k more r (n + 1)
theorem kSame.of2 {k k' : kS} (e : k'.2 = k.2) : kSame k k' := ⟨fun _ _ => by show k'.2.1 _ = _; rw [e], by show k'.2.2.1 5 = _; rw [e], by show k'.2.2.1 6 = _; rw [e], by show k'.2.2.2.1 = _; rw [e]⟩
theorem kB.of2 {k k' : kS} (e : k'.2 = k.2) (hB : kB k) : kB k' := by
  unfold kB at hB ⊢
  rw [show kZ k' = kZ k from congrArg (·.1) e, show kT k' = kT k from congrArg (·.2.1) e]
  exact hB
theorem kIs.of2 {g : zG} {A : Nat → Nat} {k k' : kS} {h : zH} (hK : kIs g A k h) (e : k'.2 = k.2) : kIs g A k' (kH A k' h) := hK.up (kSame.of2 e) (kB.of2 e hK.2.2.2)
theorem kCl_2 (i : Nat) (s : Int32) : ∀ (l : List Nat) (k : kS), (kCl i s k l).2 = k.2
  | [], _ => rfl
  | j :: r, k => kCl_2 i s r (kAd k j (s * kUse k i) s (kCr k i s))
theorem kCnt_2 (k : kS) (i : Nat) (s : Int32) : (kCnt k i s).2 = k.2 := kCl_2 i s _ k
theorem kLn_2 (k : kS) (n : Nat) : (kLn k n).2 = k.2 := by
  induction n with
  | zero => rfl
  | succ n ih => unfold kLn; rw [List.range_succ, List.foldl_append]; exact ih
theorem kLn_s (k : kS) (n : Nat) : kLn k (n + 1) = kLk (kLn k n) n (kN k).1 := by
  have e : (kLn k n).2 = k.2 := kLn_2 k n
  have e2 : kN (kLn k n) = kN k := congrArg (·.2.2.2.2) e
  unfold kLn
  rw [List.range_succ, List.foldl_append]
  show kLk (kLn k n) n (kN (kLn k n)).1 = _
  rw [e2]; rfl
theorem kLa_2 (k : kS) : (kLa k).2 = k.2 := kLn_2 k _
theorem kCa_2 (k : kS) (s : Int32) (n : Nat) : (kCa k s n).2 = k.2 := by
  induction n with
  | zero => rfl
  | succ n ih =>
    unfold kCa
    rw [List.range_succ, List.foldl_append]
    show (if kT (kCa k s n) 2 n = 0 then kCnt (kCa k s n) n s else kCa k s n).2 = _
    split
    · rw [kCnt_2]; exact ih
    · exact ih
theorem kCa_s (k : kS) (s : Int32) (n : Nat) : kCa k s (n + 1) = if kT k 2 n = 0 then kCnt (kCa k s n) n s else kCa k s n := by
  have e : kT (kCa k s n) = kT k := congrArg (·.2.1) (kCa_2 k s n)
  unfold kCa
  rw [List.range_succ, List.foldl_append]
  show (if kT (kCa k s n) 2 n = 0 then kCnt (kCa k s n) n s else kCa k s n) = _
  rw [e]; rfl
theorem kPc.of2 {k k' : kS} {p : Nat} (e : k'.2 = k.2) (h : kPc k p) : kPc k' p := by
  unfold kPc kFd at h ⊢
  rw [show kZ k' = kZ k from congrArg (·.1) e, show kT k' = kT k from congrArg (·.2.1) e, show kL k' = kL k from congrArg (·.2.2.1) e]
  exact h
theorem kCl_take (i : Nat) (s : Int32) (k : kS) (l : List Nat) {t j : Nat} (h : l[t]? = some j) : kCl i s k (l.take (t + 1)) = kAd (kCl i s k (l.take t)) j (s * kUse (kCl i s k (l.take t)) i) s (kCr (kCl i s k (l.take t)) i s) := by
  rw [List.take_add_one, h]
  simp only [Option.toList_some]
  unfold kCl
  rw [List.foldl_append]
  rfl
section X4
variable {g : zG} {l : Launch} {A : Nat → Nat} {k : kS} {h : zH}
theorem zTl.get {h' : zH} {b c : Nat} {xs : List Nat} (T : zTl g h h' b xs c) : ∃ (mc : Int32) (e : Nat) (F : Nat → Value), h' b = some (.inr (8, [.int mc, .ref e, .int (nI xs.length)])) ∧ h' e = some (.inl (5, c, F)) ∧ xs.length ≤ c ∧ ∀ (j x : Nat), xs[j]? = some x → F j = .ref x := by
  obtain ⟨-, -, -, mc, e, F, t1, t2, t3, -, -, -, t4, -⟩ := T
  exact ⟨mc, e, F, t1, t2, t3, t4⟩
theorem zTl.getK {h' : zH} {b c : Nat} {xs : List Nat} (T : zTl g h h' b xs c) (hK : kIs g A k h) {k' : kS} (e : k'.2 = k.2) : ∃ (mc : Int32) (e : Nat) (F : Nat → Value), kH A k' h' b = some (.inr (8, [.int mc, .ref e, .int (nI xs.length)])) ∧ kH A k' h' e = some (.inl (5, c, F)) ∧ xs.length ≤ c ∧ ∀ (j x : Nat), xs[j]? = some x → F j = .ref x := by
  obtain ⟨mc, e', F, t1, t2, t3, t4⟩ := T.get
  have fr := kH_fr (hK.le T.1) (kSame.of2 e) (h0 := h') (fun _ _ q _ => q)
  exact ⟨mc, e', F, fr _ _ t1 rfl, fr _ _ t2 rfl, t3, t4⟩
theorem c_count (hl : l.stackTraces = false) (hK : kIs g A k h) (i : Nat) (s : Int32) (hi : i < kZ k 1) (hpc : kPc k (kT k 1 i)) : zM g l yX1_count (ws_ yX1_count cX1_count 6 none) 12 457 5 80 [.ref (A 0), .ref (A (60 + i)), .int s] h (zRv (kH A (kCnt k i s) h)) zNx := by
  refine zM.of (cc := cX1_count) (nL := 6) (ret := none) (by decide) hl (zcat rfl) (Nat.le_of_ble_eq_true rfl) ?_
  intro Z hg hz hC hE hN
  subst hg
  subst hz
  change zW Z _ _ _ 0 [some _, some _, some _, none, none, none] []
  have hst := hC.2.2.2.2.2.2.2.1
  have hB := hK.2.2.2
  have he := hB.2.2.2.2.1 i hi
  refine r_aload_n hC dX1_count_0 rfl (by first | rfl | exact zisR_rf _) ?_
  refine r_aload_n hC dX1_count_1 rfl (by first | rfl | exact zisR_rf _) ?_
  refine r_getN hC 1 in_X5 (ci := 3) (ref := "AllotmentLedger$Entry") (nm := "owner") (ds := "I") (host := "AllotmentLedger") rfl (k_ent hK hi) (by decide) ⟨rfl, rfl, rfl⟩ (by decide +kernel) rfl dX1_count_2 ?_
  refine r_aload_n hC dX1_count_5 rfl (by first | rfl | exact zisR_rf _) ?_
  refine r_getN hC 2 in_X5 (ci := 3) (ref := "AllotmentLedger$Entry") (nm := "project") (ds := "LAllotmentLedger$Project;") (host := "AllotmentLedger") rfl (k_ent hK hi) (by decide) ⟨rfl, rfl, rfl⟩ (by decide +kernel) rfl dX1_count_6 ?_
  refine r_callV hC (c_acOf hst hK (kT k 0 i) (kT k 1 i) he.1 he.2.1 hpc) (k_led hK) rfl q1042 q1044 qs9 q36 q1045 (n := 2) (by decide +kernel) rfl (Nat.le_of_ble_eq_true rfl) (Nat.le_of_ble_eq_true rfl) rfl (Nat.le_of_ble_eq_true rfl) (cb' := 0) (sb' := 0) (by omega) (by omega) dX1_count_9 znx (fun v9 h9 e9 => ?_)
  obtain ⟨b, c, rfl, hc, T⟩ := e9
  have hK1 := hK.le T.1
  generalize hls : kAc k (kT k 0 i) (kT k 1 i) = ls at T
  have hmem : ∀ (t j : Nat), ls[t]? = some j → j < 9 + kZ k 0 := fun t j q => kAc_lt he.1 hB.1.1 (by rw [hls]; exact List.mem_of_getElem? q)
  have hlen : (ls.map (fun j => A (20 + j))).length = ls.length := List.length_map _
  have lp : ∀ t, t ≤ ls.length → ∀ x5, zW Z (kH A (kCl i s k (ls.take t)) h9) 0 0 16 [some (.ref (A 0)), some (.ref (A (60 + i))), some (.int s), some (.ref b), some (.int (nI t)), x5] [] := by
    refine zloop ls.length (fun t ih ht x5 => ?_)
    have e2 := kCl_2 i s (ls.take t) k
    generalize hkt : kCl i s k (ls.take t) = kt at e2
    have hKt := hK1.of2 e2
    obtain ⟨mc, e, F, t1, t2, t3, t4⟩ := T.getK hK e2
    rw [hlen] at t1 t3
    refine r_iload hC dX1_count_16 rfl ?_
    refine r_aload_n hC dX1_count_18 rfl (by first | rfl | exact zisR_rf _) ?_
    refine r_callV hC (c_lsize hst _ b e ls.length mc t1) t1 rfl q622 q623 q624 q43 q625 (n := 0) (by decide +kernel) rfl (Nat.le_of_ble_eq_true rfl) (Nat.le_of_ble_eq_true rfl) rfl (Nat.le_of_ble_eq_true rfl) (Nat.le_refl _) (Nat.le_refl _) dX1_count_19 znx (zri ?_)
    refine r_icmp_geN hC dX1_count_22 (tgt := 100) (by decide) (by omega) (by omega) (fun e1 => ?_) (fun e1 => ?_)
    · obtain rfl : t = ls.length := by omega
      rw [List.take_length] at hkt
      have hfin : kCnt k i s = kt := by rw [← hkt]; unfold kCnt; rw [hls]
      refine zW.to (h' := kH A kt h) (kH_le T.1) (Nat.le_refl _) (Nat.le_refl _) ?_
      rw [hfin] at hE
      exact r_vret hC hE rfl dX1_count_100 ⟨rfl, rfl⟩
    · obtain ⟨j, hj⟩ : ∃ j, ls[t]? = some j := ⟨_, List.getElem?_eq_getElem e1⟩
      have hjm := hmem t j hj
      have hF : F t = .ref (A (20 + j)) := t4 t _ (by rw [List.getElem?_map, hj]; rfl)
      have hz : kZ kt 0 = kZ k 0 := by show kt.2.1 0 = _; rw [e2]
      have hz1 : kZ kt 1 = kZ k 1 := by show kt.2.1 1 = _; rw [e2]
      have hi4 : i < kZ kt 1 := by rw [hz1]; exact hi
      have hj4 : j < 9 + kZ kt 0 := by rw [hz]; exact hjm
      refine r_aload_n hC dX1_count_25 rfl (by first | rfl | exact zisR_rf _) ?_
      refine r_iload hC dX1_count_26 rfl ?_
      refine r_callV hC (c_lget hst _ b e ls.length c t F mc t1 t2 e1 t3 (by omega) (by rw [hF]; rfl)) t1 rfl q626 q627 q628 q43 q629 (n := 1) (by decide +kernel) rfl (Nat.le_of_ble_eq_true rfl) (Nat.le_of_ble_eq_true rfl) rfl (Nat.le_of_ble_eq_true rfl) (Nat.le_refl _) (Nat.le_refl _) dX1_count_28 znx (zri ?_)
      rw [hF]
      rcases k_acc hKt (j := j) (by omega) with ⟨cj, ea⟩ | ⟨cj, ea⟩
      all_goals
        first
          | refine r_castY hC ea rfl (nm := "AllotmentLedger$Account") q110 (Or.inr rfl) dX1_count_31 ?_
          | refine r_castY hC ea rfl (nm := "AllotmentLedger$Account") q110 (Or.inl (by decide +kernel)) dX1_count_31 ?_
        clear ea
        refine r_ast5 hC dX1_count_34 (by first | rfl | exact zisR_rf _) ?_
        refine r_aload hC dX1_count_36 rfl (by first | rfl | exact zisR_rf _) ?_
        refine r_dup hC dX1_count_38 (by first | rfl | exact zcat1 _) ?_
        refine a_getN hC hKt 3 (host := "AllotmentLedger") hj4 (by decide) rfl rfl (by decide +kernel) dX1_count_39 ?_
        refine r_iload_n hC dX1_count_42 rfl ?_
        refine r_aload_n hC dX1_count_43 rfl (by first | rfl | exact zisR_rf _) ?_
        refine r_callV hC (c_uses hst hKt i hi4) (k_ent hKt hi4) rfl q1047 q1048 q1049 q67 q1050 (n := 0) (by decide +kernel) rfl (Nat.le_of_ble_eq_true rfl) (Nat.le_of_ble_eq_true rfl) rfl (Nat.le_of_ble_eq_true rfl) (Nat.le_refl _) (Nat.le_refl _) dX1_count_44 znx (zri ?_)
        refine r_imul hC dX1_count_47 ?_
        refine r_iadd hC dX1_count_48 ?_
        refine a_putN hC hKt 3 (host := "AllotmentLedger") hj4 (by decide) rfl rfl (by decide +kernel) dX1_count_49 ?_
        have e3 : (kuA kt j 3 (kA kt j 3 + s * kUse kt i)).2 = k.2 := e2
        have hK3 := hK1.of2 e3
        rw [kH_kH kuA_same]
        refine r_aload hC dX1_count_52 rfl (by first | rfl | exact zisR_rf _) ?_
        refine r_dup hC dX1_count_54 (by first | rfl | exact zcat1 _) ?_
        refine a_getN hC hK3 4 (host := "AllotmentLedger") hj4 (by decide) rfl rfl (by decide +kernel) dX1_count_55 ?_
        refine r_iload_n hC dX1_count_58 rfl ?_
        refine r_iadd hC dX1_count_59 ?_
        refine a_putN hC hK3 4 (host := "AllotmentLedger") hj4 (by decide) rfl rfl (by decide +kernel) dX1_count_60 ?_
        rw [kH_kH kuA_same]
        have e4 : (kuA (kuA kt j 3 (kA kt j 3 + s * kUse kt i)) j 4 (kA (kuA kt j 3 (kA kt j 3 + s * kUse kt i)) j 4 + s)).2 = k.2 := e2
        have hK4 := hK1.of2 e4
        refine r_aload hC dX1_count_63 rfl (by first | rfl | exact zisR_rf _) ?_
        refine r_dup hC dX1_count_65 (by first | rfl | exact zcat1 _) ?_
        refine a_getN hC hK4 5 (host := "AllotmentLedger") hj4 (by decide) rfl rfl (by decide +kernel) dX1_count_66 ?_
        refine r_aload_n hC dX1_count_69 rfl (by first | rfl | exact zisR_rf _) ?_
        refine r_getN hC 0 in_X5 (ci := 3) (ref := "AllotmentLedger$Entry") (nm := "number") (ds := "I") (host := "AllotmentLedger") rfl (k_ent hK4 (i := i) hi4) (by decide) ⟨rfl, rfl, rfl⟩ (by decide +kernel) rfl dX1_count_70 ?_
        refine r_aload_n hC dX1_count_73 rfl (by first | rfl | exact zisR_rf _) ?_
        refine r_get hC 7 in_X1 (ci := 0) rfl (k_led hK4) (by decide) ⟨rfl, rfl, rfl⟩ q263 rfl dX1_count_74 ?_
        have hgo : ∀ x : Int32, kCr kt i s = x → zW Z (kH A (kuA (kuA kt j 3 (kA kt j 3 + s * kUse kt i)) j 4 (kA (kuA kt j 3 (kA kt j 3 + s * kUse kt i)) j 4 + s)) h9) 0 0 90 [some (.ref (A 0)), some (.ref (A (60 + i))), some (.int s), some (.ref b), some (.int (nI t)), some (.ref (A (20 + j)))] [.int x, .int (kA (kuA (kuA kt j 3 (kA kt j 3 + s * kUse kt i)) j 4 (kA (kuA kt j 3 (kA kt j 3 + s * kUse kt i)) j 4 + s)) j 5), .ref (A (20 + j))] := by
          intro x hx
          refine r_iadd hC dX1_count_90 ?_
          refine a_putN hC hK4 5 (host := "AllotmentLedger") hj4 (by decide) rfl rfl (by decide +kernel) dX1_count_91 ?_
          rw [kH_kH kuA_same]
          have hnext : kCl i s k (ls.take (t + 1)) = kuA (kuA (kuA kt j 3 (kA kt j 3 + s * kUse kt i)) j 4 (kA (kuA kt j 3 (kA kt j 3 + s * kUse kt i)) j 4 + s)) j 5 (kA (kuA (kuA kt j 3 (kA kt j 3 + s * kUse kt i)) j 4 (kA (kuA kt j 3 (kA kt j 3 + s * kUse kt i)) j 4 + s)) j 5 + x) := by
            rw [kCl_take i s k ls hj, hkt, hx]
            simp [kAd, kA, kuA]
          rw [← hnext]
          refine r_inc4 hC dX1_count_94 (by first | exact (nI_1 _) | rfl) ?_
          refine r_goto hC dX1_count_97 (tgt := 16) (by decide) ?_
          exact ih e1 (by omega) _
        refine r_icmp_ge hC dX1_count_77 (tgt := 89) (by decide) (fun e9 => ?_) (fun e9 => ?_)
        · refine r_iconst hC dX1_count_89 (v := 0) (by decide) ?_
          exact hgo 0 (by
            unfold kCr
            have hn : (kN kt).2 = (kN k).2 := by show kt.2.2.2.2.2.2 = _; rw [e2]
            have e9' : (kN kt).2 ≤ nI i := e9
            rw [if_neg (Int32.not_lt.mpr e9')])
        · refine r_iload_n hC dX1_count_80 rfl ?_
          refine r_aload_n hC dX1_count_81 rfl (by first | rfl | exact zisR_rf _) ?_
          refine r_callV hC (c_uses hst hK4 i hi4) (k_ent hK4 (i := i) hi4) rfl q1047 q1048 q1049 q67 q1050 (n := 0) (by decide +kernel) rfl (Nat.le_of_ble_eq_true rfl) (Nat.le_of_ble_eq_true rfl) rfl (Nat.le_of_ble_eq_true rfl) (Nat.le_refl _) (Nat.le_refl _) dX1_count_82 znx (zri ?_)
          refine r_imul hC dX1_count_85 ?_
          refine r_goto hC dX1_count_86 (tgt := 90) (by decide) ?_
          exact hgo _ (by
            unfold kCr
            have e9' : ¬ (kN kt).2 ≤ nI i := e9
            rw [if_pos (Int32.not_le.mp e9')]; rfl)
  refine r_ast3 hC dX1_count_12 (by first | rfl | exact zisR_rf _) ?_
  refine r_iconst hC dX1_count_13 (v := (nI 0)) (by decide) ?_
  refine r_ist4 hC dX1_count_14 ?_
  have h0 := lp 0 (Nat.zero_le _) none
  have e0 : kH A (kCl i s k (ls.take 0)) h9 = h9 := kH_id hK1
  rw [e0] at h0
  exact h0
end X4

