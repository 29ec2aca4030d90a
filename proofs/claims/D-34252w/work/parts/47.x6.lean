/-! THE COMPONENT 6: answers, limits, time, letters -/
set_option maxRecDepth 100000
/-- answered, nothing changed but what k' says; or thrown -/
def kIn (v lo hi : Int32) : Bool := decide (lo ≤ v ∧ v ≤ hi)
section X6
variable {g : zG} {l : Launch} {A : Nat → Nat} {k : kS} {h : zH}
theorem c_xprojects (hl : l.stackTraces = false) (hK : kIs g A k h) : zM g l yX1_projects (ws_ yX1_projects cX1_projects 1 (some .int)) 1 20 0 0 [.ref (A 0)] h (zRi (.int (nI (kZ k 0))) h) zNx := by
  refine zM.of (cc := cX1_projects) (nL := 1) (ret := (some .int)) (by decide) hl (zcat rfl) (Nat.le_of_ble_eq_true rfl) ?_
  intro Z hg hz hC hE hN
  subst hg
  subst hz
  change zW Z _ _ _ 0 [some _] []
  have hst := hC.2.2.2.2.2.2.2.1
  obtain ⟨mc, cc0, F, t1, -⟩ := hK.2.2.1.2.2.2.2.2.1
  refine r_aload_n hC dX1_projects_0 rfl (by first | rfl | exact zisR_rf _) ?_
  refine r_get hC 3 in_X1 (ci := 0) rfl (k_led hK) (by decide) ⟨rfl, rfl, rfl⟩ q259 rfl dX1_projects_1 ?_
  refine r_callV hC (c_lsize hst _ (A 5) (A 8) (kZ k 0) mc t1) t1 rfl q622 q623 q624 q43 q625 (n := 0) (by decide +kernel) rfl (Nat.le_of_ble_eq_true rfl) (Nat.le_of_ble_eq_true rfl) rfl (Nat.le_of_ble_eq_true rfl) (Nat.le_refl _) (Nat.le_refl _) dX1_projects_4 znx (zri ?_)
  exact r_iret hC hE rfl dX1_projects_7 ⟨rfl, rfl⟩
theorem c_xfindP (hl : l.stackTraces = false) (hK : kIs g A k h) : zM g l yX1_findProject (ws_ yX1_findProject cX1_findProject 2 (some .int)) 11 433 0 0 [.ref (A 0)] h (zRi (.int (nO (kFd k (kZ k 3) (kT k 6)))) h) zNx := by
  refine zM.of (cc := cX1_findProject) (nL := 2) (ret := (some .int)) (by decide) hl (zcat rfl) (Nat.le_of_ble_eq_true rfl) ?_
  intro Z hg hz hC hE hN
  subst hg
  subst hz
  change zW Z _ _ _ 0 [some _, none] []
  have hst := hC.2.2.2.2.2.2.2.1
  have hB := hK.2.2.2
  obtain ⟨m, hm, b1⟩ := hK.2.2.1.2.1
  obtain ⟨f, b2, b3⟩ := hK.2.2.1.2.2.1
  have h8 : kZ k 3 ≤ 8 := hB.2.2.2.1
  refine r_aload_n hC dX1_findProject_0 rfl (by first | rfl | exact zisR_rf _) ?_
  refine r_aload_n hC dX1_findProject_1 rfl (by first | rfl | exact zisR_rf _) ?_
  refine r_get hC 0 in_X1 (ci := 0) rfl (k_led hK) (by decide) ⟨rfl, rfl, rfl⟩ q256 rfl dX1_findProject_2 ?_
  refine r_callV hC (c_withB hst hK (A 1) (A 2) 16 (kZ k 3) f (kT k 6) m b1 b2 b3 (by omega) (by decide)) (k_led hK) rfl q618 q620 qs4 q36 q621 (n := 1) (by decide +kernel) rfl (Nat.le_of_ble_eq_true rfl) (Nat.le_of_ble_eq_true rfl) rfl (Nat.le_of_ble_eq_true rfl) (Nat.le_refl _) (Nat.le_refl _) dX1_findProject_5 znx (zri ?_)
  cases hx : kFd k (kZ k 3) (kT k 6) with
  | none =>
    rw [hx] at hE
    refine r_ast1 hC dX1_findProject_8 (by first | rfl | exact zisR_rf _) ?_
    refine r_aload_n hC dX1_findProject_9 rfl (by first | rfl | exact zisR_rf _) ?_
    refine r_ifnonnull hC dX1_findProject_10 (tgt := 17) (by decide) (x := none) rfl (fun _ e => nomatch e) (fun _ => ?_)
    refine r_iconst hC dX1_findProject_13 (v := -1) (by decide) ?_
    refine r_goto hC dX1_findProject_14 (tgt := 21) (by decide) ?_
    exact r_iret hC hE rfl dX1_findProject_21 ⟨rfl, rfl⟩
  | some p =>
    rw [hx] at hE
    have hp := kFd_lt hx
    refine r_ast1 hC dX1_findProject_8 (by first | rfl | exact zisR_rf _) ?_
    refine r_aload_n hC dX1_findProject_9 rfl (by first | rfl | exact zisR_rf _) ?_
    refine r_ifnonnull hC dX1_findProject_10 (tgt := 17) (by decide) (x := some (A (29 + p))) rfl (fun _ _ => ?_) (fun e => nomatch e)
    refine r_aload_n hC dX1_findProject_17 rfl (by first | rfl | exact zisR_rf _) ?_
    refine r_getN hC 7 in_X3 (ci := 2) (ref := "AllotmentLedger$Project") (nm := "number") (ds := "I") (host := "AllotmentLedger") rfl (k_prj hK hp) (by decide) ⟨rfl, rfl, rfl⟩ (by decide +kernel) rfl dX1_findProject_18 ?_
    exact r_iret hC hE rfl dX1_findProject_21 ⟨rfl, rfl⟩
theorem c_xused (hl : l.stackTraces = false) (hK : kIs g A k h) (kd n : Int32) : zM g l yX1_used (ws_ yX1_used cX1_used 3 (some .int)) 8 131 1 6 [.ref (A 0), .int kd, .int n] h (fun u h' => h' = h ∧ ∃ j, kAo k kd n = some j ∧ u = some (.int (kA k j 3))) (fun E h' => E = IOOB ∧ h' = h ∧ kAo k kd n = none) := by
  refine zM.of (cc := cX1_used) (nL := 3) (ret := (some .int)) (by decide) hl (zcat rfl) (Nat.le_of_ble_eq_true rfl) ?_
  intro Z hg hz hC hE hN
  subst hg
  subst hz
  change zW Z _ _ _ 0 [some _, some _, some _] []
  have hst := hC.2.2.2.2.2.2.2.1
  have hB := hK.2.2.2
  refine r_aload_n hC dX1_used_0 rfl (by first | rfl | exact zisR_rf _) ?_
  refine r_iload_n hC dX1_used_1 rfl ?_
  refine r_iload_n hC dX1_used_2 rfl ?_
  refine r_callV hC (c_acAt hst hK kd n) (k_led hK) rfl q1206 q1208 qs14 q36 q1209 (n := 2) (by decide +kernel) rfl (Nat.le_of_ble_eq_true rfl) (Nat.le_of_ble_eq_true rfl) rfl (Nat.le_of_ble_eq_true rfl) (cb' := 0) (sb' := 0) (by omega) (by omega) dX1_used_3 (fun E h' e => by obtain ⟨rfl, rfl, hb⟩ := e; exact r_xout hC hE (fun _ q => by cases q) ⟨rfl, rfl, hb⟩) (fun v9 h9 e9 => ?_)
  obtain ⟨rfl, j, hj, rfl⟩ := e9
  refine a_getN hC hK 3 (host := "AllotmentLedger") (kAo_lt hj hB.1.2 hB.1.1) (by decide) rfl rfl (by decide +kernel) dX1_used_6 ?_
  exact r_iret hC hE rfl dX1_used_9 ⟨rfl, j, hj, rfl⟩
theorem c_xfilesOf (hl : l.stackTraces = false) (hK : kIs g A k h) (kd n : Int32) : zM g l yX1_filesOf (ws_ yX1_filesOf cX1_filesOf 3 (some .int)) 8 131 1 6 [.ref (A 0), .int kd, .int n] h (fun u h' => h' = h ∧ ∃ j, kAo k kd n = some j ∧ u = some (.int (kA k j 4))) (fun E h' => E = IOOB ∧ h' = h ∧ kAo k kd n = none) := by
  refine zM.of (cc := cX1_filesOf) (nL := 3) (ret := (some .int)) (by decide) hl (zcat rfl) (Nat.le_of_ble_eq_true rfl) ?_
  intro Z hg hz hC hE hN
  subst hg
  subst hz
  change zW Z _ _ _ 0 [some _, some _, some _] []
  have hst := hC.2.2.2.2.2.2.2.1
  have hB := hK.2.2.2
  refine r_aload_n hC dX1_filesOf_0 rfl (by first | rfl | exact zisR_rf _) ?_
  refine r_iload_n hC dX1_filesOf_1 rfl ?_
  refine r_iload_n hC dX1_filesOf_2 rfl ?_
  refine r_callV hC (c_acAt hst hK kd n) (k_led hK) rfl q1206 q1208 qs14 q36 q1209 (n := 2) (by decide +kernel) rfl (Nat.le_of_ble_eq_true rfl) (Nat.le_of_ble_eq_true rfl) rfl (Nat.le_of_ble_eq_true rfl) (cb' := 0) (sb' := 0) (by omega) (by omega) dX1_filesOf_3 (fun E h' e => by obtain ⟨rfl, rfl, hb⟩ := e; exact r_xout hC hE (fun _ q => by cases q) ⟨rfl, rfl, hb⟩) (fun v9 h9 e9 => ?_)
  obtain ⟨rfl, j, hj, rfl⟩ := e9
  refine a_getN hC hK 4 (host := "AllotmentLedger") (kAo_lt hj hB.1.2 hB.1.1) (by decide) rfl rfl (by decide +kernel) dX1_filesOf_6 ?_
  exact r_iret hC hE rfl dX1_filesOf_9 ⟨rfl, j, hj, rfl⟩
theorem c_xcounted (hl : l.stackTraces = false) (hK : kIs g A k h) (kd n : Int32) : zM g l yX1_counted (ws_ yX1_counted cX1_counted 4 (some .int)) 8 131 2 12 [.ref (A 0), .int kd, .int n] h (fun u h' => h' = h ∧ ∃ j, kAo k kd n = some j ∧ (kN k).2 ≠ -1 ∧ u = some (.int (kA k j 5))) (fun E h' => h' = h ∧ (E = IOOB ∧ kAo k kd n = none ∨ E = ISE ∧ kAo k kd n ≠ none ∧ (kN k).2 = -1)) := by
  refine zM.of (cc := cX1_counted) (nL := 4) (ret := (some .int)) (by decide) hl (zcat rfl) (Nat.le_of_ble_eq_true rfl) ?_
  intro Z hg hz hC hE hN
  subst hg
  subst hz
  change zW Z _ _ _ 0 [some _, some _, some _, none] []
  have hst := hC.2.2.2.2.2.2.2.1
  have hB := hK.2.2.2
  refine r_aload_n hC dX1_counted_0 rfl (by first | rfl | exact zisR_rf _) ?_
  refine r_iload_n hC dX1_counted_1 rfl ?_
  refine r_iload_n hC dX1_counted_2 rfl ?_
  refine r_callV hC (c_acAt hst hK kd n) (k_led hK) rfl q1206 q1208 qs14 q36 q1209 (n := 2) (by decide +kernel) rfl (Nat.le_of_ble_eq_true rfl) (Nat.le_of_ble_eq_true rfl) rfl (Nat.le_of_ble_eq_true rfl) (cb' := 1) (sb' := 6) (by omega) (by omega) dX1_counted_3 (fun E h' e => by obtain ⟨rfl, rfl, hb⟩ := e; exact r_xout hC hE (fun _ q => by cases q) ⟨rfl, Or.inl ⟨rfl, hb⟩⟩) (fun v9 h9 e9 => ?_)
  obtain ⟨rfl, j, hj, rfl⟩ := e9
  have k20 : zW Z h9 1 6 20 [some (.ref (A 0)), some (.int kd), some (.int n), some (.ref (A (20 + j)))] [.int (nB (!decide ((kN k).2 = -1)))] := by
    refine r_callS hC (c_rqS hst (!decide ((kN k).2 = -1))) q863 q864 q36 q865 (n := 1) (by decide +kernel) rfl (Nat.le_of_ble_eq_true rfl) (Nat.le_of_ble_eq_true rfl) rfl (Nat.le_of_ble_eq_true rfl) (cb' := 0) (sb' := 0) (by omega) (by omega) dX1_counted_20 (fun E h' e => by obtain ⟨rfl, rfl, hb⟩ := e; exact r_xout hC hE (fun _ q => by cases q) ⟨rfl, Or.inr ⟨rfl, by rw [hj]; exact nofun, by simpa using hb⟩⟩) (fun v9 h9 e9 => ?_)
    obtain ⟨rfl, rfl, hs⟩ := e9
    refine r_aload_n hC dX1_counted_23 rfl (by first | rfl | exact zisR_rf _) ?_
    refine a_getN hC hK 5 (host := "AllotmentLedger") (kAo_lt hj hB.1.2 hB.1.1) (by decide) rfl rfl (by decide +kernel) dX1_counted_24 ?_
    exact r_iret hC hE rfl dX1_counted_27 ⟨rfl, j, hj, by simpa using hs, rfl⟩
  have kb := zbool hC dX1_counted_15 dX1_counted_16 dX1_counted_19 rfl rfl (by decide) k20
  refine r_ast3 hC dX1_counted_6 (by first | rfl | exact zisR_rf _) ?_
  refine r_aload_n hC dX1_counted_7 rfl (by first | rfl | exact zisR_rf _) ?_
  refine r_get hC 7 in_X1 (ci := 0) rfl (k_led hK) (by decide) ⟨rfl, rfl, rfl⟩ q263 rfl dX1_counted_8 ?_
  refine r_iconst hC dX1_counted_11 (v := -1) (by decide) ?_
  refine r_icmp_eq hC dX1_counted_12 (tgt := 19) (by decide) (fun e => kb.2 ?_) (fun e => kb.1 ?_)
  · have e' : (kN k).2 = -1 := e
    simp [e']
  · have e' : ¬ (kN k).2 = -1 := e
    simp [e']
theorem c_xgrace (hl : l.stackTraces = false) (hK : kIs g A k h) (kd n : Int32) : zM g l yX1_grace (ws_ yX1_grace cX1_grace 4 (some .int)) 8 131 1 6 [.ref (A 0), .int kd, .int n] h (fun u h' => h' = h ∧ ∃ j, kAo k kd n = some j ∧ u = some (.int (if kA k j 6 = -1 then -1 else if 0 < 48 - ((kN k).1 - kA k j 6) then 48 - ((kN k).1 - kA k j 6) else 0))) (fun E h' => E = IOOB ∧ h' = h ∧ kAo k kd n = none) := by
  refine zM.of (cc := cX1_grace) (nL := 4) (ret := (some .int)) (by decide) hl (zcat rfl) (Nat.le_of_ble_eq_true rfl) ?_
  intro Z hg hz hC hE hN
  subst hg
  subst hz
  change zW Z _ _ _ 0 [some _, some _, some _, none] []
  have hst := hC.2.2.2.2.2.2.2.1
  have hB := hK.2.2.2
  refine r_aload_n hC dX1_grace_0 rfl (by first | rfl | exact zisR_rf _) ?_
  refine r_iload_n hC dX1_grace_1 rfl ?_
  refine r_iload_n hC dX1_grace_2 rfl ?_
  refine r_callV hC (c_acAt hst hK kd n) (k_led hK) rfl q1206 q1208 qs14 q36 q1209 (n := 2) (by decide +kernel) rfl (Nat.le_of_ble_eq_true rfl) (Nat.le_of_ble_eq_true rfl) rfl (Nat.le_of_ble_eq_true rfl) (cb' := 0) (sb' := 0) (by omega) (by omega) dX1_grace_3 (fun E h' e => by obtain ⟨rfl, rfl, hb⟩ := e; exact r_xout hC hE (fun _ q => by cases q) ⟨rfl, rfl, hb⟩) (fun v9 h9 e9 => ?_)
  obtain ⟨rfl, j, hj, rfl⟩ := e9
  refine r_ast3 hC dX1_grace_6 (by first | rfl | exact zisR_rf _) ?_
  refine r_aload_n hC dX1_grace_7 rfl (by first | rfl | exact zisR_rf _) ?_
  refine a_getN hC hK 6 (host := "AllotmentLedger") (kAo_lt hj hB.1.2 hB.1.1) (by decide) rfl rfl (by decide +kernel) dX1_grace_8 ?_
  refine r_iconst hC dX1_grace_11 (v := -1) (by decide) ?_
  refine r_icmp_ne hC dX1_grace_12 (tgt := 19) (by decide) (fun e => ?_) (fun e => ?_)
  · have e' : ¬ kA k j 6 = -1 := e
    refine r_iconst hC dX1_grace_19 (v := (nI 0)) (by decide) ?_
    refine r_bipush hC dX1_grace_20 (v := (nI 48)) (by decide) ?_
    refine r_aload_n hC dX1_grace_22 rfl (by first | rfl | exact zisR_rf _) ?_
    refine r_get hC 6 in_X1 (ci := 0) rfl (k_led hK) (by decide) ⟨rfl, rfl, rfl⟩ q262 rfl dX1_grace_23 ?_
    refine r_aload_n hC dX1_grace_26 rfl (by first | rfl | exact zisR_rf _) ?_
    refine a_getN hC hK 6 (host := "AllotmentLedger") (kAo_lt hj hB.1.2 hB.1.1) (by decide) rfl rfl (by decide +kernel) dX1_grace_27 ?_
    refine r_isub hC dX1_grace_30 ?_
    refine r_isub hC dX1_grace_31 ?_
    refine r_max hC q1246 q214 q47 q215 (Nat.le_of_ble_eq_true rfl) (Nat.le_of_ble_eq_true rfl) (Nat.le_of_ble_eq_true rfl) dX1_grace_32 ?_
    exact r_iret hC hE rfl dX1_grace_35 ⟨rfl, j, hj, by rw [if_neg e']; rfl⟩
  · have e' : kA k j 6 = -1 := e
    refine r_iconst hC dX1_grace_15 (v := -1) (by decide) ?_
    refine r_goto hC dX1_grace_16 (tgt := 35) (by decide) ?_
    exact r_iret hC hE rfl dX1_grace_35 ⟨rfl, j, hj, by rw [if_pos e']⟩
theorem c_xpass (hl : l.stackTraces = false) (hK : kIs g A k h) (n : Int32) : zM g l yX1_pass (ws_ yX1_pass cX1_pass 2 (some .int)) 7 109 2 12 [.ref (A 0), .int n] h (fun u h' => kIn n 1 1000 = true ∧ (kN k).1 + n ≤ 100000 ∧ u = some (.int ((kN k).1 + n)) ∧ h' = kH A (kuN k ((kN k).1 + n)) h) (fun E h' => h' = h ∧ (E = IAE ∧ kIn n 1 1000 = false ∨ E = ISE ∧ kIn n 1 1000 = true ∧ ¬ (kN k).1 + n ≤ 100000)) := by
  refine zM.of (cc := cX1_pass) (nL := 2) (ret := (some .int)) (by decide) hl (zcat rfl) (Nat.le_of_ble_eq_true rfl) ?_
  intro Z hg hz hC hE hN
  subst hg
  subst hz
  change zW Z _ _ _ 0 [some _, some _] []
  have hst := hC.2.2.2.2.2.2.2.1
  refine r_iload_n hC dX1_pass_0 rfl ?_
  refine r_iconst hC dX1_pass_1 (v := (nI 1)) (by decide) ?_
  refine r_sipush hC dX1_pass_2 (v := (nI 1000)) (by decide) ?_
  refine r_callS hC (c_xin hst n (nI 1) (nI 1000)) q962 q963 q36 q964 (n := 3) (by decide +kernel) rfl (Nat.le_of_ble_eq_true rfl) (Nat.le_of_ble_eq_true rfl) rfl (Nat.le_of_ble_eq_true rfl) (cb' := 2) (sb' := 12) (by omega) (by omega) dX1_pass_5 znx (zri ?_)
  refine r_callS hC (c_rqA hst (kIn n 1 1000)) q849 q850 q36 q851 (n := 1) (by decide +kernel) rfl (Nat.le_of_ble_eq_true rfl) (Nat.le_of_ble_eq_true rfl) rfl (Nat.le_of_ble_eq_true rfl) (cb' := 1) (sb' := 6) (by omega) (by omega) dX1_pass_8 (fun E h' e => by obtain ⟨rfl, rfl, hb⟩ := e; exact r_xout hC hE (fun _ q => by cases q) ⟨rfl, Or.inl ⟨rfl, hb⟩⟩) (fun v9 h9 e9 => ?_)
  obtain ⟨rfl, rfl, h1⟩ := e9
  have k27 : zW Z h9 1 6 27 [some (.ref (A 0)), some (.int n)] [.int (nB (decide ((kN k).1 + n ≤ 100000)))] := by
    refine r_callS hC (c_rqS hst (decide ((kN k).1 + n ≤ 100000))) q863 q864 q36 q865 (n := 1) (by decide +kernel) rfl (Nat.le_of_ble_eq_true rfl) (Nat.le_of_ble_eq_true rfl) rfl (Nat.le_of_ble_eq_true rfl) (cb' := 0) (sb' := 0) (by omega) (by omega) dX1_pass_27 (fun E h' e => by obtain ⟨rfl, rfl, hb⟩ := e; exact r_xout hC hE (fun _ q => by cases q) ⟨rfl, Or.inr ⟨rfl, h1, of_decide_eq_false hb⟩⟩) (fun v9 h9 e9 => ?_)
    obtain ⟨rfl, rfl, h2⟩ := e9
    have h2' := of_decide_eq_true h2
    have hKu := hK.up (k' := kuN k ((kN k).1 + n)) kuN_same hK.2.2.2
    refine r_aload_n hC dX1_pass_30 rfl (by first | rfl | exact zisR_rf _) ?_
    refine r_dup hC dX1_pass_31 (by first | rfl | exact zcat1 _) ?_
    refine r_get hC 6 in_X1 (ci := 0) rfl (k_led hK) (by decide) ⟨rfl, rfl, rfl⟩ q262 rfl dX1_pass_32 ?_
    refine r_iload_n hC dX1_pass_35 rfl ?_
    refine r_iadd hC dX1_pass_36 ?_
    refine l_putNow hC hK q262 dX1_pass_37 ?_
    refine r_aload_n hC dX1_pass_40 rfl (by first | rfl | exact zisR_rf _) ?_
    refine r_get hC 6 in_X1 (ci := 0) rfl (k_led hKu) (by decide) ⟨rfl, rfl, rfl⟩ q262 rfl dX1_pass_41 ?_
    exact r_iret hC hE rfl dX1_pass_44 ⟨h1, h2', rfl, rfl⟩
  have kb := zbool hC dX1_pass_22 dX1_pass_23 dX1_pass_26 rfl rfl (by decide) k27
  refine r_aload_n hC dX1_pass_11 rfl (by first | rfl | exact zisR_rf _) ?_
  refine r_get hC 6 in_X1 (ci := 0) rfl (k_led hK) (by decide) ⟨rfl, rfl, rfl⟩ q262 rfl dX1_pass_12 ?_
  refine r_iload_n hC dX1_pass_15 rfl ?_
  refine r_iadd hC dX1_pass_16 ?_
  refine r_ldc hC (v := 100000) q1210 dX1_pass_17 ?_
  refine r_icmp_gt hC dX1_pass_19 (tgt := 26) (by decide) (fun e => kb.2 ?_) (fun e => kb.1 ?_)
  · exact decide_eq_false (Int32.not_le.mpr e)
  · exact decide_eq_true (Int32.not_lt.mp e)
theorem c_xletterAt (hl : l.stackTraces = false) (hK : kIs g A k h) (p n : Int32) : zM g l yX1_letterAt (ws_ yX1_letterAt cX1_letterAt 4 (some .char)) 8 130 2 12 [.ref (A 0), .int p, .int n] h (fun u h' => h' = h ∧ ∃ x, x < kZ k 0 ∧ p = nI x ∧ 0 ≤ n ∧ u = some (.int (if n.toNatClampNeg < kT k 5 x then nI (kL k x n.toNatClampNeg) else nI 32))) (fun E h' => E = IOOB ∧ h' = h ∧ (zIn p (kZ k 0) && decide (0 ≤ n)) = false) := by
  refine zM.of (cc := cX1_letterAt) (nL := 4) (ret := (some .char)) (by decide) hl (zcat rfl) (Nat.le_of_ble_eq_true rfl) ?_
  intro Z hg hz hC hE hN
  subst hg
  subst hz
  change zW Z _ _ _ 0 [some _, some _, some _, none] []
  have hst := hC.2.2.2.2.2.2.2.1
  have hB := hK.2.2.2
  have h21 : kZ k 0 ≤ 21 := hB.1.2
  refine r_aload_n hC dX1_letterAt_0 rfl (by first | rfl | exact zisR_rf _) ?_
  refine r_iload_n hC dX1_letterAt_1 rfl ?_
  refine r_callV hC (c_prjAt hst hK p) (k_led hK) rfl q958 q960 qs6 q36 q961 (n := 1) (by decide +kernel) rfl (Nat.le_of_ble_eq_true rfl) (Nat.le_of_ble_eq_true rfl) rfl (Nat.le_of_ble_eq_true rfl) (cb' := 1) (sb' := 6) (by omega) (by omega) dX1_letterAt_2 (fun E h' e => by obtain ⟨rfl, rfl, hb⟩ := e; exact r_xout hC hE (fun _ q => by cases q) ⟨rfl, rfl, by rw [hb]; rfl⟩) (fun v9 h9 e9 => ?_)
  obtain ⟨rfl, x, hx, rfl, rfl⟩ := e9
  have hlx : kT k 5 x ≤ 8 := hB.2.2.2.2.2.2 x hx
  have k15 : zW Z h9 1 6 15 [some (.ref (A 0)), some (.int (nI x)), some (.int n), some (.ref (A (29 + x)))] [.int (nB (decide (0 ≤ n)))] := by
    refine r_callS hC (c_rqI hst (decide (0 ≤ n))) q965 q966 q36 q967 (n := 1) (by decide +kernel) rfl (Nat.le_of_ble_eq_true rfl) (Nat.le_of_ble_eq_true rfl) rfl (Nat.le_of_ble_eq_true rfl) (cb' := 0) (sb' := 0) (by omega) (by omega) dX1_letterAt_15 (fun E h' e => by obtain ⟨rfl, rfl, hb⟩ := e; exact r_xout hC hE (fun _ q => by cases q) ⟨rfl, rfl, by rw [hb, Bool.and_false]⟩) (fun v9 h9 e9 => ?_)
    obtain ⟨rfl, rfl, h2⟩ := e9
    have h2' := of_decide_eq_true h2
    obtain ⟨hn1, hn2⟩ := n_pos (Int32.not_lt.mpr h2')
    obtain ⟨b9, f9, s1, s2, s3⟩ := id (k_str hK hx)
    refine r_iload_n hC dX1_letterAt_18 rfl ?_
    refine r_aload_n hC dX1_letterAt_19 rfl (by first | rfl | exact zisR_rf _) ?_
    refine r_getN hC 8 in_X3 (ci := 2) (ref := "AllotmentLedger$Project") (nm := "path") (ds := "Ljava/lang/String;") (host := "AllotmentLedger") rfl (k_prj hK hx) (by decide) ⟨rfl, rfl, rfl⟩ (by decide +kernel) rfl dX1_letterAt_20 ?_
    refine r_callV hC (c_slen hst h9 _ b9 (kT k 5 x) f9 s1 s2 (by omega)) s1 rfl q999 q370 q371 q39 q372 (n := 0) (by decide +kernel) rfl (Nat.le_of_ble_eq_true rfl) (Nat.le_of_ble_eq_true rfl) rfl (Nat.le_of_ble_eq_true rfl) (Nat.le_refl _) (Nat.le_refl _) dX1_letterAt_23 znx (zri ?_)
    generalize hm : n.toNatClampNeg = m at *
    subst hn1
    refine r_icmp_geN hC dX1_letterAt_26 (tgt := 40) (by decide) (by omega) (by omega) (fun e1 => ?_) (fun e1 => ?_)
    · skip
      refine r_bipush hC dX1_letterAt_40 (v := (nI 32)) (by decide) ?_
      exact r_zret hC hE rfl rfl dX1_letterAt_42 ⟨rfl, x, hx, rfl, h2', by rw [if_neg (by omega)]⟩
    · refine r_aload_n hC dX1_letterAt_29 rfl (by first | rfl | exact zisR_rf _) ?_
      refine r_getN hC 8 in_X3 (ci := 2) (ref := "AllotmentLedger$Project") (nm := "path") (ds := "Ljava/lang/String;") (host := "AllotmentLedger") rfl (k_prj hK hx) (by decide) ⟨rfl, rfl, rfl⟩ (by decide +kernel) rfl dX1_letterAt_30 ?_
      refine r_iload_n hC dX1_letterAt_33 rfl ?_
      refine r_callV hC (c_scharAt hst h9 _ _ m _ (k_str hK hx) e1 (by omega)) s1 rfl q1079 q793 q1555 q39 q795 (n := 1) (by decide +kernel) rfl (Nat.le_of_ble_eq_true rfl) (Nat.le_of_ble_eq_true rfl) rfl (Nat.le_of_ble_eq_true rfl) (Nat.le_refl _) (Nat.le_refl _) dX1_letterAt_34 znx (zri ?_)
      have hlt := (s3 m e1).1
      refine r_goto hC dX1_letterAt_37 (tgt := 42) (by decide) ?_
      exact r_zret hC hE rfl (pk_charN (by omega)).1 dX1_letterAt_42 ⟨rfl, x, hx, rfl, h2', by rw [if_pos e1]⟩
  have kb := zbool hC dX1_letterAt_10 dX1_letterAt_11 dX1_letterAt_14 rfl rfl (by decide) k15
  refine r_ast3 hC dX1_letterAt_5 (by first | rfl | exact zisR_rf _) ?_
  refine r_iload_n hC dX1_letterAt_6 rfl ?_
  refine r_if_lt hC dX1_letterAt_7 (tgt := 14) (by decide) (fun e => kb.2 (decide_eq_false (Int32.not_le.mpr e))) (fun e => kb.1 (decide_eq_true (Int32.not_lt.mp e)))
theorem c_xsetLim (hl : l.stackTraces = false) (hK : kIs g A k h) (kd n so ha fi : Int32) : zM g l yX1_setLimits (ws_ yX1_setLimits cX1_setLimits 7 none) 8 131 2 12 [.ref (A 0), .int kd, .int n, .int so, .int ha, .int fi] h (fun u h' => u = none ∧ ∃ j, kAo k kd n = some j ∧ (kIn so (-1) 100000 && kIn ha (-1) 100000 && kIn fi (-1) 100) = true ∧ h' = kH A (kLk (kuA (kuA (kuA k j 0 so) j 1 ha) j 2 fi) j (kN k).1) h) (fun E h' => h' = h ∧ (E = IOOB ∧ kAo k kd n = none ∨ E = IAE ∧ kAo k kd n ≠ none ∧ (kIn so (-1) 100000 && kIn ha (-1) 100000 && kIn fi (-1) 100) = false)) := by
  refine zM.of (cc := cX1_setLimits) (nL := 7) (ret := none) (by decide) hl (zcat rfl) (Nat.le_of_ble_eq_true rfl) ?_
  intro Z hg hz hC hE hN
  subst hg
  subst hz
  change zW Z _ _ _ 0 [some _, some _, some _, some _, some _, some _, none] []
  have hst := hC.2.2.2.2.2.2.2.1
  have hB := hK.2.2.2
  refine r_aload_n hC dX1_setLimits_0 rfl (by first | rfl | exact zisR_rf _) ?_
  refine r_iload_n hC dX1_setLimits_1 rfl ?_
  refine r_iload_n hC dX1_setLimits_2 rfl ?_
  refine r_callV hC (c_acAt hst hK kd n) (k_led hK) rfl q1206 q1208 qs14 q36 q1209 (n := 2) (by decide +kernel) rfl (Nat.le_of_ble_eq_true rfl) (Nat.le_of_ble_eq_true rfl) rfl (Nat.le_of_ble_eq_true rfl) (cb' := 1) (sb' := 6) (by omega) (by omega) dX1_setLimits_3 (fun E h' e => by obtain ⟨rfl, rfl, hb⟩ := e; exact r_xout hC hE (fun _ q => by cases q) ⟨rfl, Or.inl ⟨rfl, hb⟩⟩) (fun v9 h9 e9 => ?_)
  obtain ⟨rfl, j, hj, rfl⟩ := e9
  have hjl := kAo_lt hj hB.1.2 hB.1.1
  have k45 : zW Z h9 1 6 45 [some (.ref (A 0)), some (.int kd), some (.int n), some (.int so), some (.int ha), some (.int fi), some (.ref (A (20 + j)))] [.int (nB (kIn so (-1) 100000 && kIn ha (-1) 100000 && kIn fi (-1) 100))] := by
    refine r_callS hC (c_rqA hst (kIn so (-1) 100000 && kIn ha (-1) 100000 && kIn fi (-1) 100)) q849 q850 q36 q851 (n := 1) (by decide +kernel) rfl (Nat.le_of_ble_eq_true rfl) (Nat.le_of_ble_eq_true rfl) rfl (Nat.le_of_ble_eq_true rfl) (cb' := 0) (sb' := 0) (by omega) (by omega) dX1_setLimits_45 (fun E h' e => by obtain ⟨rfl, rfl, hb⟩ := e; exact r_xout hC hE (fun _ q => by cases q) ⟨rfl, Or.inr ⟨rfl, by rw [hj]; exact nofun, hb⟩⟩) (fun v9 h9 e9 => ?_)
    obtain ⟨rfl, rfl, hs⟩ := e9
    have hK1 := hK.up (k' := kuA k j 0 so) kuA_same hB
    have hK2 := hK.up (k' := kuA (kuA k j 0 so) j 1 ha) kuA_same hB
    have hK3 := hK.up (k' := kuA (kuA (kuA k j 0 so) j 1 ha) j 2 fi) kuA_same hB
    refine r_aload hC dX1_setLimits_48 rfl (by first | rfl | exact zisR_rf _) ?_
    refine r_iload_n hC dX1_setLimits_50 rfl ?_
    refine a_putN hC hK 0 (host := "AllotmentLedger") hjl (by decide) rfl rfl (by decide +kernel) dX1_setLimits_51 ?_
    refine r_aload hC dX1_setLimits_54 rfl (by first | rfl | exact zisR_rf _) ?_
    refine r_iload hC dX1_setLimits_56 rfl ?_
    refine a_putN hC hK1 1 (host := "AllotmentLedger") hjl (by decide) rfl rfl (by decide +kernel) dX1_setLimits_58 ?_
    rw [kH_kH kuA_same]
    refine r_aload hC dX1_setLimits_61 rfl (by first | rfl | exact zisR_rf _) ?_
    refine r_iload hC dX1_setLimits_63 rfl ?_
    refine a_putN hC hK2 2 (host := "AllotmentLedger") hjl (by decide) rfl rfl (by decide +kernel) dX1_setLimits_65 ?_
    rw [kH_kH kuA_same]
    refine r_aload hC dX1_setLimits_68 rfl (by first | rfl | exact zisR_rf _) ?_
    refine r_aload_n hC dX1_setLimits_70 rfl (by first | rfl | exact zisR_rf _) ?_
    refine r_get hC 6 in_X1 (ci := 0) rfl (k_led hK3) (by decide) ⟨rfl, rfl, rfl⟩ q262 rfl dX1_setLimits_71 ?_
    refine r_callA hC (c_alook hst hK3 j (kN k).1 hjl) (k_sel hK3 hjl q1058 q1060) q1056 q1057 q44 q1061 (n := 1) (by decide +kernel) rfl (Nat.le_of_ble_eq_true rfl) (Nat.le_of_ble_eq_true rfl) rfl (Nat.le_of_ble_eq_true rfl) (Nat.le_refl _) (Nat.le_refl _) dX1_setLimits_74 znx (zrv ?_)
    have hfin : kH A (kLk (kuA (kuA (kuA k j 0 so) j 1 ha) j 2 fi) j (kN k).1) (kH A (kuA (kuA (kuA k j 0 so) j 1 ha) j 2 fi) h9) = kH A (kLk (kuA (kuA (kuA k j 0 so) j 1 ha) j 2 fi) j (kN k).1) h9 := kH_kH kuA_same
    rw [hfin]
    exact r_vret hC hE rfl dX1_setLimits_77 ⟨rfl, j, hj, hs, rfl⟩
  have kb := zbool hC dX1_setLimits_40 dX1_setLimits_41 dX1_setLimits_44 rfl rfl (by decide) k45
  refine r_ast6 hC dX1_setLimits_6 (by first | rfl | exact zisR_rf _) ?_
  refine r_iload_n hC dX1_setLimits_8 rfl ?_
  refine r_iconst hC dX1_setLimits_9 (v := -1) (by decide) ?_
  refine r_ldc hC (v := 100000) q1210 dX1_setLimits_10 ?_
  refine r_callS hC (c_xin hst so (-1) 100000) q962 q963 q36 q964 (n := 3) (by decide +kernel) rfl (Nat.le_of_ble_eq_true rfl) (Nat.le_of_ble_eq_true rfl) rfl (Nat.le_of_ble_eq_true rfl) (cb' := 1) (sb' := 6) (by omega) (by omega) dX1_setLimits_12 znx (zri ?_)
  refine r_if_eqB hC dX1_setLimits_15 (tgt := 44) (by decide) (fun e => kb.2 ?_) (fun e1 => ?_)
  · have e' : kIn so (-1) 100000 = false := e
    rw [e']; rfl
  · have e1' : kIn so (-1) 100000 = true := e1
    refine r_iload hC dX1_setLimits_18 rfl ?_
    refine r_iconst hC dX1_setLimits_20 (v := -1) (by decide) ?_
    refine r_ldc hC (v := 100000) q1210 dX1_setLimits_21 ?_
    refine r_callS hC (c_xin hst ha (-1) 100000) q962 q963 q36 q964 (n := 3) (by decide +kernel) rfl (Nat.le_of_ble_eq_true rfl) (Nat.le_of_ble_eq_true rfl) rfl (Nat.le_of_ble_eq_true rfl) (cb' := 1) (sb' := 6) (by omega) (by omega) dX1_setLimits_23 znx (zri ?_)
    refine r_if_eqB hC dX1_setLimits_26 (tgt := 44) (by decide) (fun e => kb.2 ?_) (fun e2 => ?_)
    · have e' : kIn ha (-1) 100000 = false := e
      rw [e', Bool.and_false]; rfl
    · have e2' : kIn ha (-1) 100000 = true := e2
      refine r_iload hC dX1_setLimits_29 rfl ?_
      refine r_iconst hC dX1_setLimits_31 (v := -1) (by decide) ?_
      refine r_bipush hC dX1_setLimits_32 (v := (nI 100)) (by decide) ?_
      refine r_callS hC (c_xin hst fi (-1) (nI 100)) q962 q963 q36 q964 (n := 3) (by decide +kernel) rfl (Nat.le_of_ble_eq_true rfl) (Nat.le_of_ble_eq_true rfl) rfl (Nat.le_of_ble_eq_true rfl) (cb' := 1) (sb' := 6) (by omega) (by omega) dX1_setLimits_34 znx (zri ?_)
      refine r_if_eqB hC dX1_setLimits_37 (tgt := 44) (by decide) (fun e => kb.2 ?_) (fun e3 => kb.1 ?_)
      · have e' : kIn fi (-1) 100 = false := e
        rw [e', Bool.and_false]
      · have e3' : kIn fi (-1) 100 = true := e3
        rw [e1', e2', e3']; rfl
end X6

