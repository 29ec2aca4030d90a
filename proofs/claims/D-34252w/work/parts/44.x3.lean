/-! THE COMPONENT 3: the accounts of a file, counting, looking -/
set_option maxRecDepth 100000
def kAcP (k : kS) (ow pj m : Nat) : List Nat := [ow, 6 + ow % 3] ++ (List.range (kT k 5 pj - m + 1)).map (fun i => 9 + (kFd k (kT k 5 pj - i) (kL k pj)).getD 0)
/-- the accounts of a file of ow in project pj -/
def kAc (k : kS) (ow pj : Nat) : List Nat := kAcP k ow pj 0
def kPc (k : kS) (pj : Nat) : Prop := ∀ m, m ≤ kT k 5 pj → kFd k m (kL k pj) ≠ none
theorem kAcP_s {k : kS} {ow pj m : Nat} (hm : m < kT k 5 pj) : kAcP k ow pj m = kAcP k ow pj (m + 1) ++ [9 + (kFd k m (kL k pj)).getD 0] := by
  unfold kAcP
  rw [show kT k 5 pj - m + 1 = (kT k 5 pj - (m + 1) + 1) + 1 by omega, List.range_succ, List.map_append, ← List.append_assoc]
  congr 1
  simp only [List.map_cons, List.map_nil]
  rw [show kT k 5 pj - (kT k 5 pj - (m + 1) + 1) = m by omega]
theorem kAcP_len {k : kS} {ow pj m : Nat} : (kAcP k ow pj m).length = 2 + (kT k 5 pj - m + 1) := by
  simp [kAcP]; omega
theorem kAcP_n {k : kS} {ow pj : Nat} : kAcP k ow pj (kT k 5 pj) = [ow, 6 + ow % 3] ++ [9 + (kFd k (kT k 5 pj) (kL k pj)).getD 0] := by
  simp [kAcP, List.range_succ]
theorem kFd_lt {k : kS} {n p : Nat} {w : Nat → Nat} (h : kFd k n w = some p) : p < kZ k 0 := (zLast_lt h).1
theorem kAc_lt {k : kS} {ow pj j : Nat} (ho : ow < 6) (h1 : 1 ≤ kZ k 0) (hj : j ∈ kAc k ow pj) : j < 9 + kZ k 0 := by
  simp only [kAc, kAcP, List.cons_append, List.nil_append, List.mem_cons, List.mem_map] at hj
  rcases hj with rfl | rfl | ⟨i, -, rfl⟩
  · omega
  · omega
  · cases hx : kFd k (kT k 5 pj - i) (kL k pj) with
    | none => simp; omega
    | some p => have := kFd_lt hx; simp; omega
theorem kFd_congr {k : kS} {n : Nat} {w v : Nat → Nat} (h : ∀ j, j < n → w j = v j) : kFd k n w = kFd k n v := by
  unfold kFd
  refine zLast_congr (fun p _ => ?_)
  unfold zEqW
  by_cases c : kT k 5 p = n
  · subst c
    congr 1
    rw [Bool.eq_iff_iff, zAll_iff, zAll_iff]
    constructor
    · intro q j hj; rw [← h j hj]; exact q j hj
    · intro q j hj; rw [h j hj]; exact q j hj
  · have c' : (kT k 5 p == n) = false := beq_eq_false_iff_ne.mpr c
    show ((kT k 5 p == n) && _) = ((kT k 5 p == n) && _)
    rw [c']; rfl
theorem k_obj {g : zG} {A : Nat → Nat} {k : kS} {h : zH} (hK : kIs g A k h) {j : Nat} (hj : j < 9 + kZ k 0) : zObj h (A (20 + j)) := by
  rcases k_acc hK hj with ⟨-, e⟩ | ⟨-, e⟩
  · exact ⟨1, _, _, e, rfl, by decide +kernel⟩
  · exact ⟨2, _, _, e, rfl, by decide +kernel⟩
theorem zTl.le {g : zG} {h h' h'' : zH} {b c : Nat} {xs : List Nat} (t : zTl g h h' b xs c) (l : zLe h' h'') : zTl g h h'' b xs c := by
  obtain ⟨t1, t2, t3, mc, e, F, t4, t5, t6⟩ := t
  exact ⟨t1.tr l, t2, t3, mc, e, F, l _ _ t4, l _ _ t5, t6⟩
/-- another temporary cell written -/
theorem zTl.put {g : zG} {h h' : zH} {b c a : Nat} {xs : List Nat} {e0 e1 : zE} (t : zTl g h h' b xs c) (ha : h a = none) (h0 : h' a = some e0) (n1 : ∀ fs, e0 ≠ .inr (8, fs)) (n2 : ∀ c F, e0 ≠ .inl (5, c, F)) : zTl g h (zup h' a e1) b xs c := by
  obtain ⟨t1, t2, t3, mc, e, F, t4, t5, t6⟩ := t
  have b1 : b ≠ a := fun z => by rw [z, h0] at t4; cases t4; exact n1 _ rfl
  have b2 : e ≠ a := fun z => by rw [z, h0] at t5; cases t5; exact n2 _ _ rfl
  exact ⟨t1.put ha, t2, t3, mc, e, F, by rw [zup_n b1]; exact t4, by rw [zup_n b2]; exact t5, t6⟩
section X3
variable {g : zG} {l : Launch} {A : Nat → Nat} {k : kS} {h : zH}
theorem c_addTl (hl : l.stackTraces = false) {h' : zH} {b : Nat} {xs : List Nat} {c : Nat} (ht : zTl g h h' b xs c) (y : Nat) (hy : zObj h y) (hc : c < 600) (hlt : xs.length < c) : zM g l yJ6_add (ws_ yJ6_add cJ6_add 2 (some .boolean)) 6 170 0 0 [.ref b, .ref y] h' (fun u h'' => u = some (.int 1) ∧ zTf h' h'' ∧ zTl g h h'' b (xs ++ [y]) c) zNx := by
  have h9 := c_addT hl ht y hy hc
  have n1 : ¬ xs.length = c := by omega
  simp only [if_neg n1] at h9
  exact h9
theorem c_addTe (hl : l.stackTraces = false) {h' : zH} {b : Nat} {xs : List Nat} {c : Nat} (ht : zTl g h h' b xs c) (y : Nat) (hy : zObj h y) (hc : c < 600) (heq : xs.length = c) : zM g l yJ6_add (ws_ yJ6_add cJ6_add 2 (some .boolean)) 6 170 1 (2 * c + 10) [.ref b, .ref y] h' (fun u h'' => u = some (.int 1) ∧ zTf h' h'' ∧ zTl g h h'' b (xs ++ [y]) (zgrow c)) zNx := by
  have h9 := c_addT hl ht y hy hc
  simp only [if_pos heq] at h9
  exact h9
theorem c_acOf (hl : l.stackTraces = false) (hK : kIs g A k h) (ow pj : Nat) (ho : ow < 6) (hp : pj < kZ k 0) (hpc : kPc k pj) : zM g l yX1_accountsOf (ws_ yX1_accountsOf cX1_accountsOf 5 (some (.object "java/util/ArrayList"))) 11 433 5 80 [.ref (A 0), .int (nI ow), .ref (A (29 + pj))] h (fun u h' => ∃ b c : Nat, u = some (.ref b) ∧ c < 100 ∧ zTl g h h' b ((kAc k ow pj).map (fun j => A (20 + j))) c) zNx := by
  refine zM.of (cc := cX1_accountsOf) (nL := 5) (ret := (some (.object "java/util/ArrayList"))) (by decide) hl (zcat rfl) (Nat.le_of_ble_eq_true rfl) ?_
  intro Z hg hz hC hE hN
  subst hg
  subst hz
  change zW Z _ _ _ 0 [some _, some _, some _, none, none] []
  have hst := hC.2.2.2.2.2.2.2.1
  have hn1 : kT k 5 pj ≤ 8 := hK.2.2.2.2.2.2.2.2.2 pj hp
  have hB := hK.2.2.2
  obtain ⟨s1, ⟨fs, s2, s3⟩, -⟩ := hK.2.2.1.2.2.2.2.2.2.2.2.1 pj hp
  obtain ⟨fu, u1, u2⟩ := hK.2.2.1.2.2.2.1
  obtain ⟨fg, g1, g2⟩ := hK.2.2.1.2.2.2.2.1
  obtain ⟨fe, e0⟩ := hK.2.2.1.1.2.2.1
  -- the loop
  have lp : ∀ m, m ≤ kT k 5 pj → ∀ (h' : zH) (b c q sbb cb sb : Nat) (f : Nat → Value) (w : Nat → Nat) (mm : Int32), zTl Z.1 h h' b ((kAcP k ow pj m).map (fun j => A (20 + j))) c → (c = 10 ∧ (kAcP k ow pj m).length ≤ 10 ∧ 1 ≤ cb ∧ 30 ≤ sb ∨ c = 15) → h q = none → h sbb = none → zA Z.1 q → zA Z.1 sbb → h' q = some (.inr (6, [.ref sbb, .int 0, .int mm, .int (nI m)])) → h' sbb = some (.inl (4, kT k 5 pj + 16, f)) → zBy f w (kT k 5 pj + 16) → (∀ j, j < m → w j = kL k pj j) → zW Z h' cb sb 56 [some (.ref (A 0)), some (.int (nI ow)), some (.ref (A (29 + pj))), some (.ref b), some (.ref q)] [] := by
    intro m
    induction m with
    | zero =>
      intro _ h' b c q sbb cb sb f w mm T hc hq hsb hAq hAs hq' hs' hw hwj
      refine r_aload hC dX1_accountsOf_56 rfl (by first | rfl | exact zisR_rf _) ?_
      refine r_callV hC (c_bLen hst h' q sbb mm (nI 0) hq') hq' rfl q285 q286 q287 q38 q288 (n := 0) (by decide +kernel) rfl (Nat.le_of_ble_eq_true rfl) (Nat.le_of_ble_eq_true rfl) rfl (Nat.le_of_ble_eq_true rfl) (Nat.le_refl _) (Nat.le_refl _) dX1_accountsOf_58 znx (zri ?_)
      refine r_if_le hC dX1_accountsOf_61 (tgt := 91) (by decide) (fun _ => ?_) (fun e => absurd (by decide) e)
      refine r_aload_n hC dX1_accountsOf_91 rfl (by first | rfl | exact zisR_rf _) ?_
      exact r_aret hC hE rfl (by first | exact Or.inl ⟨_, rfl⟩ | exact Or.inr ⟨_, rfl⟩) (by first | rfl | exact zisR_rf _) dX1_accountsOf_92 ⟨b, c, rfl, by omega, T⟩
    | succ m ih =>
      intro hm h' b c q sbb cb sb f w mm T hc hq hsb hAq hAs hq' hs' hw hwj
      have hlen := kAcP_len (k := k) (ow := ow) (pj := pj) (m := m + 1)
      refine r_aload hC dX1_accountsOf_56 rfl (by first | rfl | exact zisR_rf _) ?_
      refine r_callV hC (c_bLen hst h' q sbb mm (nI (m + 1)) hq') hq' rfl q285 q286 q287 q38 q288 (n := 0) (by decide +kernel) rfl (Nat.le_of_ble_eq_true rfl) (Nat.le_of_ble_eq_true rfl) rfl (Nat.le_of_ble_eq_true rfl) (Nat.le_refl _) (Nat.le_refl _) dX1_accountsOf_58 znx (zri ?_)
      refine r_if_le hC dX1_accountsOf_61 (tgt := 91) (by decide) (fun e => absurd e (Int32.not_le.mpr ((nI_ltI (by decide : 0 < 2 ^ 31) (by omega)).mpr (Nat.succ_pos m)))) (fun _ => ?_)
      refine r_aload hC dX1_accountsOf_64 rfl (by first | rfl | exact zisR_rf _) ?_
      refine r_aload hC dX1_accountsOf_66 rfl (by first | rfl | exact zisR_rf _) ?_
      refine r_callV hC (c_bLen hst h' q sbb mm (nI (m + 1)) hq') hq' rfl q285 q286 q287 q38 q288 (n := 0) (by decide +kernel) rfl (Nat.le_of_ble_eq_true rfl) (Nat.le_of_ble_eq_true rfl) rfl (Nat.le_of_ble_eq_true rfl) (Nat.le_refl _) (Nat.le_refl _) dX1_accountsOf_68 znx (zri ?_)
      refine r_iconst hC dX1_accountsOf_71 (v := (nI 1)) (by decide) ?_
      refine r_isubN hC dX1_accountsOf_72 (by omega) ?_
      rw [Nat.add_sub_cancel]
      refine r_callV hC (c_bDca hst h' q sbb (kT k 5 pj + 16) (m + 1) m f w mm hAq hAs hq' hs' hw (by omega) (by omega) (by omega)) hq' rfl q901 q902 q903 q38 q904 (n := 1) (by decide +kernel) rfl (Nat.le_of_ble_eq_true rfl) (Nat.le_of_ble_eq_true rfl) rfl (Nat.le_of_ble_eq_true rfl) (Nat.le_refl _) (Nat.le_refl _) dX1_accountsOf_73 znx (zri ?_)
      rw [Nat.add_sub_cancel]
      have hqs : q ≠ sbb := fun z => by rw [z, hs'] at hq'; cases hq'
      generalize hh2 : zup (zup h' sbb (.inl (4, kT k 5 pj + 16, va_cpy f f (m + 1) m (m + 1 - (m + 1))))) q (.inr (6, [.ref sbb, .int 0, .int 1, .int (nI m)])) = h2
      have T2 : zTl Z.1 h h2 b ((kAcP k ow pj (m + 1)).map (fun j => A (20 + j))) c := by
        rw [← hh2]
        exact (T.put hsb hs' (fun _ z => by cases z) (fun _ _ z => by cases z)).put hq (by rw [zup_n hqs]; exact hq') (fun _ z => by cases z) (fun _ _ z => by cases z)
      have q2 : h2 q = some (.inr (6, [.ref sbb, .int 0, .int 1, .int (nI m)])) := by rw [← hh2]; exact zup_s
      have s2' : h2 sbb = some (.inl (4, kT k 5 pj + 16, va_cpy f f (m + 1) m (m + 1 - (m + 1)))) := by rw [← hh2, zup_n (Ne.symm hqs)]; exact zup_s
      have hw2 := hw.cpy hw (sp := m + 1) (dp := m) (k := m + 1 - (m + 1)) (by omega)
      have hwj2 : ∀ j, j < m → (fun j => if m ≤ j ∧ j < m + (m + 1 - (m + 1)) then w (m + 1 + (j - m)) else w j) j = kL k pj j := fun j hj => by
        show (if m ≤ j ∧ j < m + (m + 1 - (m + 1)) then w (m + 1 + (j - m)) else w j) = _
        rw [if_neg (by omega)]; exact hwj j (by omega)
      generalize hw9 : (fun j => if m ≤ j ∧ j < m + (m + 1 - (m + 1)) then w (m + 1 + (j - m)) else w j) = w9 at hw2 hwj2
      refine r_pop hC dX1_accountsOf_76 (by first | rfl | exact zcat1 _) ?_
      refine r_aload_n hC dX1_accountsOf_77 rfl (by first | rfl | exact zisR_rf _) ?_
      refine r_aload_n hC dX1_accountsOf_78 rfl (by first | rfl | exact zisR_rf _) ?_
      refine r_aload hC dX1_accountsOf_79 rfl (by first | rfl | exact zisR_rf _) ?_
      refine r_callV hC (c_withB hst (hK.le T2.1) q sbb (kT k 5 pj + 16) m _ w9 1 q2 s2' hw2 (by omega) (by omega)) (T2.1 _ _ (k_led hK)) rfl q618 q620 qs4 q36 q621 (n := 1) (by decide +kernel) rfl (Nat.le_of_ble_eq_true rfl) (Nat.le_of_ble_eq_true rfl) rfl (Nat.le_of_ble_eq_true rfl) (Nat.le_refl _) (Nat.le_refl _) dX1_accountsOf_81 znx (zri ?_)
      rw [kFd_congr (k := k) hwj2]
      obtain ⟨p9, hp9⟩ := Option.ne_none_iff_exists'.mp (hpc m (by omega))
      rw [hp9]
      have hpl := kFd_lt hp9
      obtain ⟨_, _, _, _, _, _, tb, -⟩ := id T2
      have hob := k_obj hK (j := 9 + p9) (by omega)
      rw [show 20 + (9 + p9) = 29 + p9 by omega] at hob
      have hmap : (kAcP k ow pj m).map (fun j => A (20 + j)) = (kAcP k ow pj (m + 1)).map (fun j => A (20 + j)) ++ [A (29 + p9)] := by
        rw [kAcP_s (by omega), List.map_append, hp9]
        simp only [List.map_cons, List.map_nil, Option.getD_some]
        rw [show 20 + (9 + p9) = 29 + p9 by omega]
      by_cases hfull : ((kAcP k ow pj (m + 1)).map (fun j => A (20 + j))).length = c
      · have hlm : ((kAcP k ow pj (m + 1)).map (fun j => A (20 + j))).length = (kAcP k ow pj (m + 1)).length := List.length_map _
        have hc10 : c = 10 := by
          rcases hc with ⟨e, -⟩ | e
          · exact e
          · omega
        obtain ⟨-, -, hcb1, hsb1⟩ : c = 10 ∧ (kAcP k ow pj (m + 1)).length ≤ 10 ∧ 1 ≤ cb ∧ 30 ≤ sb := by
          rcases hc with e | e
          · exact e
          · omega
        subst hc10
        refine r_callV hC (c_addTe hst T2 (A (29 + p9)) hob (by decide) hfull) tb rfl q194 q195 q196 q43 q197 (n := 1) (by decide +kernel) rfl (Nat.le_of_ble_eq_true rfl) (Nat.le_of_ble_eq_true rfl) rfl (Nat.le_of_ble_eq_true rfl) (cb' := (cb-1)) (sb' := (sb-30)) (by omega) (by omega) dX1_accountsOf_84 znx (fun v9 h9 e9 => ?_)
        obtain ⟨rfl, tf, T3⟩ := e9
        rw [← hmap] at T3
        have f1 := tf _ _ q2 (fun _ z => by cases z) (fun _ _ z => by cases z)
        have f2 := tf _ _ s2' (fun _ z => by cases z) (fun _ _ z => by cases z)
        refine r_pop hC dX1_accountsOf_87 (by first | rfl | exact zcat1 _) ?_
        refine r_goto hC dX1_accountsOf_88 (tgt := 56) (by decide) ?_
        exact ih (by omega) h9 b 15 q sbb _ _ _ w9 1 T3 (Or.inr rfl) hq hsb hAq hAs f1 f2 hw2 hwj2
      · have hlm : ((kAcP k ow pj (m + 1)).map (fun j => A (20 + j))).length = (kAcP k ow pj (m + 1)).length := List.length_map _
        refine r_callV hC (c_addTl hst T2 (A (29 + p9)) hob (by omega) (by omega)) tb rfl q194 q195 q196 q43 q197 (n := 1) (by decide +kernel) rfl (Nat.le_of_ble_eq_true rfl) (Nat.le_of_ble_eq_true rfl) rfl (Nat.le_of_ble_eq_true rfl) (Nat.le_refl _) (Nat.le_refl _) dX1_accountsOf_84 znx (fun v9 h9 e9 => ?_)
        obtain ⟨rfl, tf, T3⟩ := e9
        rw [← hmap] at T3
        have f1 := tf _ _ q2 (fun _ z => by cases z) (fun _ _ z => by cases z)
        have f2 := tf _ _ s2' (fun _ z => by cases z) (fun _ _ z => by cases z)
        have hlen2 := kAcP_len (k := k) (ow := ow) (pj := pj) (m := m)
        refine r_pop hC dX1_accountsOf_87 (by first | rfl | exact zcat1 _) ?_
        refine r_goto hC dX1_accountsOf_88 (tgt := 56) (by decide) ?_
        exact ih (by omega) h9 b c q sbb _ _ _ w9 1 T3 (hc.imp (fun z => ⟨z.1, by omega, z.2.2⟩) id) hq hsb hAq hAs f1 f2 hw2 hwj2
  -- the head
  refine r_new hC in_J6 tyJ6 tyJ6_ok (ci := 8) (fs := [.int 0, .null, .int 0]) rfl q112 q113 q43 (by decide) (cb' := 4) (sb' := 77) (by omega) (by omega) dX1_accountsOf_0 (fun b hb hAb => ?_)
  refine r_dup hC dX1_accountsOf_3 (by first | rfl | exact zcat1 _) ?_
  refine r_callI hC (c_lInit hst _ b hAb zup_s) q114 q115 q43 q116 rfl (n := 0) (by decide +kernel) rfl (Nat.le_of_ble_eq_true rfl) (Nat.le_of_ble_eq_true rfl) rfl (Nat.le_of_ble_eq_true rfl) (Nat.le_refl _) (Nat.le_refl _) dX1_accountsOf_4 znx (zrv ?_)
  rw [zup_zup]
  have T0 : zTl Z.1 h (zup h b (.inr (8, [.int 0, .ref Z.1.2.2.2.2.2.1, .int 0]))) b [] 0 := ⟨zLe.new hb, hb, hAb, 0, _, fe, zup_s, zLe.new hb _ _ e0, Nat.le_refl _, Or.inr rfl, fun _ => rfl, fun z => absurd rfl z, fun _ _ z => by simp at z, fun _ z => by cases z⟩
  generalize (zup h b (.inr (8, [.int 0, .ref Z.1.2.2.2.2.2.1, .int 0]))) = h1 at T0
  refine r_ast3 hC dX1_accountsOf_7 (by first | rfl | exact zisR_rf _) ?_
  refine r_aload_n hC dX1_accountsOf_8 rfl (by first | rfl | exact zisR_rf _) ?_
  refine r_aload_n hC dX1_accountsOf_9 rfl (by first | rfl | exact zisR_rf _) ?_
  refine r_get hC 1 in_X1 (ci := 0) rfl (T0.1 _ _ (k_led hK)) (by decide) ⟨rfl, rfl, rfl⟩ q257 rfl dX1_accountsOf_10 ?_
  refine r_iload_n hC dX1_accountsOf_13 rfl ?_
  refine r_ald hC 6 (T0.1 _ _ u1) (vp_in_nI ho (by decide)) (v := .ref (A (20 + ow))) (by rw [nI_clamp (by omega)]; exact u2 ow ho) dX1_accountsOf_14 (by simp) ?_
  obtain ⟨_, _, _, _, _, _, tb, -⟩ := id T0
  refine r_callV hC (c_addTe hst T0 (A (20 + ow)) (k_obj hK (by omega)) (by decide) rfl) tb rfl q194 q195 q196 q43 q197 (n := 1) (by decide +kernel) rfl (Nat.le_of_ble_eq_true rfl) (Nat.le_of_ble_eq_true rfl) rfl (Nat.le_of_ble_eq_true rfl) (cb' := 3) (sb' := 67) (by omega) (by omega) dX1_accountsOf_15 znx (fun v9 h9 e9 => ?_)
  obtain ⟨rfl, -, T1⟩ := e9
  clear tb
  refine r_pop hC dX1_accountsOf_18 (by first | rfl | exact zcat1 _) ?_
  refine r_aload_n hC dX1_accountsOf_19 rfl (by first | rfl | exact zisR_rf _) ?_
  refine r_aload_n hC dX1_accountsOf_20 rfl (by first | rfl | exact zisR_rf _) ?_
  refine r_get hC 2 in_X1 (ci := 0) rfl (T1.1 _ _ (k_led hK)) (by decide) ⟨rfl, rfl, rfl⟩ q258 rfl dX1_accountsOf_21 ?_
  refine r_iload_n hC dX1_accountsOf_24 rfl ?_
  refine r_iconst hC dX1_accountsOf_25 (v := (nI 3)) (by decide) ?_
  refine r_iremN hC dX1_accountsOf_26 (by first | omega | exact hB.1 _ | exact hB.2 _ _) (by decide) (by decide) ?_
  refine r_ald hC 6 (T1.1 _ _ g1) (vp_in_nI (by omega : ow % 3 < 3) (by decide)) (v := .ref (A (20 + (6 + ow % 3)))) (by rw [nI_clamp (by omega), g2 (ow % 3) (by omega), show 26 + ow % 3 = 20 + (6 + ow % 3) by omega]) dX1_accountsOf_27 (by simp) ?_
  obtain ⟨_, _, _, _, _, _, tb, -⟩ := id T1
  refine r_callV hC (c_addTl hst T1 (A (20 + (6 + ow % 3))) (k_obj hK (by omega)) (by decide) (Nat.le_of_ble_eq_true rfl)) tb rfl q194 q195 q196 q43 q197 (n := 1) (by decide +kernel) rfl (Nat.le_of_ble_eq_true rfl) (Nat.le_of_ble_eq_true rfl) rfl (Nat.le_of_ble_eq_true rfl) (Nat.le_refl _) (Nat.le_refl _) dX1_accountsOf_28 znx (fun v9 h9 e9 => ?_)
  obtain ⟨rfl, -, T2⟩ := e9
  clear tb
  refine r_pop hC dX1_accountsOf_31 (by first | rfl | exact zcat1 _) ?_
  refine r_new hC in_J1 tyJ1 tyJ1_ok (ci := 6) (fs := [.null, .int 0, .int 0, .int 0]) rfl q77 q78 q38 (by decide) (cb' := 2) (sb' := 60) (by omega) (by omega) dX1_accountsOf_32 (fun q hq hAq => ?_)
  have T3 := T2.le (zLe.new (e := .inr (6, [.null, .int 0, .int 0, .int 0])) hq)
  have q0 : h q = none := T2.1.no hq
  refine r_dup hC dX1_accountsOf_35 (by first | rfl | exact zcat1 _) ?_
  refine r_aload_n hC dX1_accountsOf_36 rfl (by first | rfl | exact zisR_rf _) ?_
  refine r_getN hC 8 in_X3 (ci := 2) (ref := "AllotmentLedger$Project") (nm := "path") (ds := "Ljava/lang/String;") (host := "AllotmentLedger") rfl (T3.1 _ _ (k_prj hK hp)) (by decide) ⟨rfl, rfl, rfl⟩ (by decide +kernel) rfl dX1_accountsOf_37 ?_
  refine r_callI hC (c_bInits hst _ q (A (200 + pj)) (A (230 + pj)) (kT k 5 pj) fs (kL k pj) hAq zup_s (T3.1 _ _ s1) (T3.1 _ _ s2) s3 (by omega)) q1046 q1006 q38 q1007 rfl (n := 1) (by decide +kernel) rfl (Nat.le_of_ble_eq_true rfl) (Nat.le_of_ble_eq_true rfl) rfl (Nat.le_of_ble_eq_true rfl) (cb' := 1) (sb' := 30) (by omega) (by omega) dX1_accountsOf_40 znx (fun v9 h9 e9 => ?_)
  obtain ⟨rfl, sbb, b1, b2, rfl⟩ := e9
  have hs0 : h sbb = none := T3.1.no b1
  have T4 := (T3.le (zLe.new (e := .inl (4, kT k 5 pj + 16, va_cpy fs (fun _ => .int 0) 0 0 (kT k 5 pj))) b1)).put (e1 := .inr (6, [.ref sbb, .int 0, .int 0, .int (nI (kT k 5 pj))])) q0 (zLe.new b1 _ _ zup_s) (fun _ z => by cases z) (fun _ _ z => by cases z)
  have hbq : sbb ≠ q := fun z => by rw [z, zup_s] at b1; cases b1
  have hw0 := s3.cpy (zBy.z (n := kT k 5 pj + 16)) (sp := 0) (dp := 0) (k := kT k 5 pj) (by omega)
  have hwj : ∀ j, j < kT k 5 pj → (fun j => if 0 ≤ j ∧ j < 0 + kT k 5 pj then kL k pj (0 + (j - 0)) else 0) j = kL k pj j := fun j hj => by
    show (if 0 ≤ j ∧ j < 0 + kT k 5 pj then kL k pj (0 + (j - 0)) else 0) = _
    rw [if_pos ⟨Nat.zero_le _, by omega⟩, Nat.zero_add, Nat.sub_zero]
  have q4 : (zup (zup (zup h9 q (.inr (6, [.null, .int 0, .int 0, .int 0]))) sbb (.inl (4, kT k 5 pj + 16, va_cpy fs (fun _ => .int 0) 0 0 (kT k 5 pj)))) q (.inr (6, [.ref sbb, .int 0, .int 0, .int (nI (kT k 5 pj))]))) q = some (.inr (6, [.ref sbb, .int 0, .int 0, .int (nI (kT k 5 pj))])) := zup_s
  have s4 : (zup (zup (zup h9 q (.inr (6, [.null, .int 0, .int 0, .int 0]))) sbb (.inl (4, kT k 5 pj + 16, va_cpy fs (fun _ => .int 0) 0 0 (kT k 5 pj)))) q (.inr (6, [.ref sbb, .int 0, .int 0, .int (nI (kT k 5 pj))]))) sbb = some (.inl (4, kT k 5 pj + 16, va_cpy fs (fun _ => .int 0) 0 0 (kT k 5 pj))) := by rw [zup_n hbq]; exact zup_s
  generalize (zup (zup (zup h9 q (.inr (6, [.null, .int 0, .int 0, .int 0]))) sbb (.inl (4, kT k 5 pj + 16, va_cpy fs (fun _ => .int 0) 0 0 (kT k 5 pj)))) q (.inr (6, [.ref sbb, .int 0, .int 0, .int (nI (kT k 5 pj))]))) = h4 at T4 q4 s4
  refine r_ast4 hC dX1_accountsOf_43 (by first | rfl | exact zisR_rf _) ?_
  refine r_aload_n hC dX1_accountsOf_45 rfl (by first | rfl | exact zisR_rf _) ?_
  refine r_aload_n hC dX1_accountsOf_46 rfl (by first | rfl | exact zisR_rf _) ?_
  refine r_aload hC dX1_accountsOf_47 rfl (by first | rfl | exact zisR_rf _) ?_
  refine r_callV hC (c_withB hst (hK.le T4.1) q sbb (kT k 5 pj + 16) (kT k 5 pj) _ _ 0 q4 s4 hw0 (by omega) (by omega)) (T4.1 _ _ (k_led hK)) rfl q618 q620 qs4 q36 q621 (n := 1) (by decide +kernel) rfl (Nat.le_of_ble_eq_true rfl) (Nat.le_of_ble_eq_true rfl) rfl (Nat.le_of_ble_eq_true rfl) (Nat.le_refl _) (Nat.le_refl _) dX1_accountsOf_49 znx (zri ?_)
  rw [kFd_congr (k := k) hwj]
  obtain ⟨p9, hp9⟩ := Option.ne_none_iff_exists'.mp (hpc (kT k 5 pj) (Nat.le_refl _))
  rw [hp9]
  have hpl := kFd_lt hp9
  have hob := k_obj hK (j := 9 + p9) (by omega)
  rw [show 20 + (9 + p9) = 29 + p9 by omega] at hob
  obtain ⟨_, _, _, _, _, _, tb, -⟩ := id T4
  refine r_callV hC (c_addTl hst T4 (A (29 + p9)) hob (by decide) (Nat.le_of_ble_eq_true rfl)) tb rfl q194 q195 q196 q43 q197 (n := 1) (by decide +kernel) rfl (Nat.le_of_ble_eq_true rfl) (Nat.le_of_ble_eq_true rfl) rfl (Nat.le_of_ble_eq_true rfl) (Nat.le_refl _) (Nat.le_refl _) dX1_accountsOf_52 znx (fun v9 h9 e9 => ?_)
  obtain ⟨rfl, tf, T5⟩ := e9
  have f1 := tf _ _ q4 (fun _ z => by cases z) (fun _ _ z => by cases z)
  have f2 := tf _ _ s4 (fun _ z => by cases z) (fun _ _ z => by cases z)
  have hmap : ([] ++ [A (20 + ow)]) ++ [A (20 + (6 + ow % 3))] ++ [A (29 + p9)] = (kAcP k ow pj (kT k 5 pj)).map (fun j => A (20 + j)) := by
    rw [kAcP_n, hp9]
    simp
    rw [show 20 + (9 + p9) = 29 + p9 by omega]
  rw [hmap] at T5
  have hl3 := kAcP_len (k := k) (ow := ow) (pj := pj) (m := kT k 5 pj)
  refine r_pop hC dX1_accountsOf_55 (by first | rfl | exact zcat1 _) ?_
  exact lp (kT k 5 pj) (Nat.le_refl _) _ b 10 q sbb _ _ _ _ 0 T5 (Or.inl ⟨rfl, by omega, by decide, by decide⟩) q0 hs0 hAq b2 f1 f2 hw0 hwj
end X3

