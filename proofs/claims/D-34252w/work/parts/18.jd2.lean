/-! JDK 2: lists grow -/
set_option maxRecDepth 100000
/-- the capacity behind a growth -/
def zgrow (c : Nat) : Nat := if c = 0 then 10 else c + (if 1 < c / 2 then c / 2 else 1)
theorem zgrow_gt (c : Nat) : c < zgrow c ∧ zgrow c ≤ 2 * c + 10 := by
  unfold zgrow
  split
  · omega
  · split <;> omega
def zGr (g : zG) (h : zH) (m n : Nat) (f : Nat → Value) : Option Value → zH → Prop := fun u h' => ∃ e2 : Nat, u = some (.ref e2) ∧ h e2 = none ∧ zA g e2 ∧ h' = zup h e2 (.inl (5, m, va_cpy f (fun _ => .null) 0 0 n))
section JD2
variable {g : zG} {l : Launch}
theorem c_copyOf2 (hl : l.stackTraces = false) (h : zH) (a m n : Nat) (f : Nat → Value) (ha : h a = some (.inl (5, n, f))) (hnm : n ≤ m) (hm : m < 2000) (hel : ∀ j, j < n → zEl h (f j)) : zM g l yJ9_copyOf_2 (ws_ yJ9_copyOf_2 cJ9_copyOf_2 4 (some (.array (.object "java/lang/Object")))) 1 60 1 m [.ref a, .int (nI m), .ref g.2.2.2.2.2.2.1] h (zGr g h m n f) zNx := by
  refine zM.of (cc := cJ9_copyOf_2) (nL := 4) (ret := (some (.array (.object "java/lang/Object")))) (by decide) hl (zcat rfl) (Nat.le_of_ble_eq_true rfl) ?_
  intro Z hg hz hC hE hN
  subst hg
  subst hz
  change zW Z _ _ _ 0 [some _, some _, some _, none] []
  have hst := hC.2.2.2.2.2.2.2.1
  refine r_aload_n hC dJ9_copyOf_2_0 rfl (by first | rfl | exact zisR_rf _) ?_
  refine r_ldcM hC q245 dJ9_copyOf_2_1 ?_
  refine r_acmp_ne hC dJ9_copyOf_2_3 (tgt := 13) (by decide) (x := some Z.1.2.2.2.2.2.2.1) (y := some Z.1.2.2.2.2.2.2.1) rfl rfl (fun e => absurd rfl e) (fun _ => ?_)
  refine r_iload_n hC dJ9_copyOf_2_6 rfl ?_
  refine r_newq hC 5 (by decide) rfl (zk_AO hC) q247 rfl (by omega) (cb' := 0) (sb' := 0) (by omega) (by omega) dJ9_copyOf_2_7 (fun e2 he2 hAe2 => ?_)
  have hae : a ≠ e2 := fun q => by rw [q, he2] at ha; cases ha
  have ha' : (zup h e2 (.inl (5, m, fun _ => .null))) a = some (.inl (5, n, f)) := by rw [zup_n hae]; exact ha
  refine r_goto hC dJ9_copyOf_2_10 (tgt := 24) (by decide) ?_
  refine r_ast3 hC dJ9_copyOf_2_24 (by first | rfl | exact zisR_rf _) ?_
  refine r_aload_n hC dJ9_copyOf_2_25 rfl (by first | rfl | exact zisR_rf _) ?_
  refine r_iconst hC dJ9_copyOf_2_26 (v := (nI 0)) (by decide) ?_
  refine r_aload_n hC dJ9_copyOf_2_27 rfl (by first | rfl | exact zisR_rf _) ?_
  refine r_iconst hC dJ9_copyOf_2_28 (v := (nI 0)) (by decide) ?_
  refine r_aload_n hC dJ9_copyOf_2_29 rfl (by first | rfl | exact zisR_rf _) ?_
  refine r_alen hC dJ9_copyOf_2_30 ha' ?_
  refine r_iload_n hC dJ9_copyOf_2_31 rfl ?_
  refine r_min hC q248 q249 q47 q250 (Nat.le_of_ble_eq_true rfl) (Nat.le_of_ble_eq_true rfl) (Nat.le_of_ble_eq_true rfl) dJ9_copyOf_2_32 ?_
  rw [zmin_nI (by omega) (by omega), show (if m < n then m else n) = n from if_neg (by omega)]
  refine r_copy hC 5 (by decide) q251 (he0 := ha') (he := zup_s) (ha := hAe2) (b1 := (by omega)) (b2 := (by omega)) (b3 := (by omega)) (b4 := (by omega)) (sp := 0) (dp := 0) (n := n) (hel := fun i hi => ⟨fun q => absurd q (by decide), fun _ => (hel (0 + i) (by omega)).new he2⟩) (Nat.le_of_ble_eq_true rfl) (Nat.le_of_ble_eq_true rfl) (Nat.le_of_ble_eq_true rfl) dJ9_copyOf_2_35 ?_
  rw [zup_zup]
  refine r_aload_n hC dJ9_copyOf_2_38 rfl (by first | rfl | exact zisR_rf _) ?_
  exact r_aret hC hE rfl (by first | exact Or.inl ⟨_, rfl⟩ | exact Or.inr ⟨_, rfl⟩) (by first | rfl | exact zisR_rf _) dJ9_copyOf_2_39 ⟨e2, rfl, he2, hAe2, rfl⟩
theorem c_copyOf (hl : l.stackTraces = false) (h : zH) (a m n : Nat) (f : Nat → Value) (ha : h a = some (.inl (5, n, f))) (hnm : n ≤ m) (hm : m < 2000) (hel : ∀ j, j < n → zEl h (f j)) : zM g l yJ9_copyOf (ws_ yJ9_copyOf cJ9_copyOf 2 (some (.array (.object "java/lang/Object")))) 2 83 1 m [.ref a, .int (nI m)] h (zGr g h m n f) zNx := by
  refine zM.of (cc := cJ9_copyOf) (nL := 2) (ret := (some (.array (.object "java/lang/Object")))) (by decide) hl (zcat rfl) (Nat.le_of_ble_eq_true rfl) ?_
  intro Z hg hz hC hE hN
  subst hg
  subst hz
  change zW Z _ _ _ 0 [some _, some _] []
  have hst := hC.2.2.2.2.2.2.2.1
  refine r_aload_n hC dJ9_copyOf_0 rfl (by first | rfl | exact zisR_rf _) ?_
  refine r_iload_n hC dJ9_copyOf_1 rfl ?_
  refine r_aload_n hC dJ9_copyOf_2 rfl (by first | rfl | exact zisR_rf _) ?_
  refine r_getC hC ha q223 q224 q241 q1578 (Nat.le_of_ble_eq_true rfl) (Nat.le_of_ble_eq_true rfl) (Nat.le_of_ble_eq_true rfl) dJ9_copyOf_3 ?_
  refine r_callS hC (c_copyOf2 hst h a m n f ha hnm hm hel) q242 q243 q48 q244 (n := 3) (by decide +kernel) rfl (Nat.le_of_ble_eq_true rfl) (Nat.le_of_ble_eq_true rfl) rfl (Nat.le_of_ble_eq_true rfl) (cb' := 0) (sb' := 0) (by omega) (by omega) dJ9_copyOf_6 znx (fun v9 h9 e9 => ?_)
  obtain ⟨e2, rfl, k1, k2, rfl⟩ := e9
  exact r_aret hC hE rfl (by first | exact Or.inl ⟨_, rfl⟩ | exact Or.inr ⟨_, rfl⟩) (by first | rfl | exact zisR_rf _) dJ9_copyOf_9 ⟨e2, rfl, k1, k2, rfl⟩
theorem c_grow2 (hl : l.stackTraces = false) (h : zH) (b e c : Nat) (mc : Int32) (f : Nat → Value) (hA : zA g b) (hb : h b = some (.inr (8, [.int mc, .ref e, .int (nI c)]))) (he : h e = some (.inl (5, c, f))) (h0 : c = 0 → e = g.2.2.2.2.2.1) (hc : c < 600) (hel : ∀ j, j < c → zEl h (f j)) :
    zM g l yJ6_grow_2 (ws_ yJ6_grow_2 cJ6_grow_2 4 (some (.array (.object "java/lang/Object")))) 3 104 1 (2 * c + 10) [.ref b, .int (nI (c + 1))] h (fun u h' => ∃ e2 : Nat, u = some (.ref e2) ∧ h e2 = none ∧ zA g e2 ∧ h' = zup (zup h e2 (.inl (5, zgrow c, va_cpy f (fun _ => .null) 0 0 c))) b (.inr (8, [.int mc, .ref e2, .int (nI c)]))) zNx := by
  refine zM.of (cc := cJ6_grow_2) (nL := 4) (ret := (some (.array (.object "java/lang/Object")))) (by decide) hl (zcat rfl) (Nat.le_of_ble_eq_true rfl) ?_
  intro Z hg hz hC hE hN
  subst hg
  subst hz
  change zW Z _ _ _ 0 [some _, some _, none, none] []
  have hst := hC.2.2.2.2.2.2.2.1
  have hg := zgrow_gt c
  have hbe : b ≠ e := fun q => by rw [q, he] at hb; cases hb
  refine r_aload_n hC dJ6_grow_2_0 rfl (by first | rfl | exact zisR_rf _) ?_
  refine r_get hC 1 in_J6 (ci := 8) rfl (by assumption) (by decide) ⟨rfl, rfl, rfl⟩ q126 rfl dJ6_grow_2_1 ?_
  refine r_alen hC dJ6_grow_2_4 he ?_
  refine r_ist2 hC dJ6_grow_2_5 ?_
  refine r_iload_n hC dJ6_grow_2_6 rfl ?_
  refine r_if_gt hC dJ6_grow_2_7 (tgt := 20) (by decide) (fun e1 => ?_) (fun e1 => ?_)
  · have hc0 : 0 < c := by
      rcases Nat.eq_zero_or_pos c with q | q
      · rw [q] at e1; exact absurd e1 (by decide)
      · exact q
    have hgc : zgrow c = c + (if 1 < c / 2 then c / 2 else 1) := by unfold zgrow; rw [if_neg (by omega)]
    refine r_iload_n hC dJ6_grow_2_20 rfl ?_
    refine r_iload_n hC dJ6_grow_2_21 rfl ?_
    refine r_iload_n hC dJ6_grow_2_22 rfl ?_
    first | refine r_isubN hC dJ6_grow_2_23 (by omega) ?_ | refine r_isub hC dJ6_grow_2_23 ?_
    refine r_iload_n hC dJ6_grow_2_24 rfl ?_
    refine r_iconst hC dJ6_grow_2_25 (v := (nI 1)) (by decide) ?_
    refine r_ishr hC dJ6_grow_2_26 ?_
    rw [nI_shr1 (by omega) (by decide), show c + 1 - c = 1 by omega]
    refine r_callS hC (c_newLength hst h c 1 (c / 2 ^ 1) (by decide) (by omega) (by decide) (by omega)) q210 q211 q46 q212 (n := 3) (by decide +kernel) rfl (Nat.le_of_ble_eq_true rfl) (Nat.le_of_ble_eq_true rfl) rfl (Nat.le_of_ble_eq_true rfl) (Nat.le_refl _) (Nat.le_refl _) dJ6_grow_2_27 znx (zri ?_)
    rw [show c + (if 1 < c / 2 ^ 1 then c / 2 ^ 1 else 1) = zgrow c from hgc.symm]
    refine r_ist3 hC dJ6_grow_2_30 ?_
    refine r_aload_n hC dJ6_grow_2_31 rfl (by first | rfl | exact zisR_rf _) ?_
    refine r_aload_n hC dJ6_grow_2_32 rfl (by first | rfl | exact zisR_rf _) ?_
    refine r_get hC 1 in_J6 (ci := 8) rfl (by assumption) (by decide) ⟨rfl, rfl, rfl⟩ q126 rfl dJ6_grow_2_33 ?_
    refine r_iload_n hC dJ6_grow_2_36 rfl ?_
    refine r_callS hC (c_copyOf hst h e (zgrow c) c f he (by omega) (by omega) hel) q220 q221 q48 q222 (n := 2) (by decide +kernel) rfl (Nat.le_of_ble_eq_true rfl) (Nat.le_of_ble_eq_true rfl) rfl (Nat.le_of_ble_eq_true rfl) (cb' := 0) (sb' := 0) (by omega) (by omega) dJ6_grow_2_37 znx (fun v9 h9 e9 => ?_)
    obtain ⟨e2, rfl, k1, k2, rfl⟩ := e9
    have hb2 : b ≠ e2 := fun q => by rw [q, k1] at hb; cases hb
    have hb' : zup h e2 (.inl (5, zgrow c, va_cpy f (fun _ => .null) 0 0 c)) b = some (.inr (8, [.int mc, .ref e, .int (nI c)])) := by rw [zup_n hb2]; exact hb
    refine r_dup_x1 hC dJ6_grow_2_40 (by first | rfl | exact zcat1 _) (by first | rfl | exact zcat1 _) ?_
    refine r_put hC 1 in_J6 tyJ6 tyJ6_ok nmJ6 (ci := 8) rfl (by assumption) hb' (by decide) ⟨rfl, rfl, rfl, rfl⟩ q126 (by decide +kernel : parseFieldDescriptor "[Ljava/lang/Object;" = some (.array (.object "java/lang/Object"))) rfl rfl (by simp) rfl dJ6_grow_2_41 ?_
    exact r_aret hC hE rfl (by first | exact Or.inl ⟨_, rfl⟩ | exact Or.inr ⟨_, rfl⟩) (by first | rfl | exact zisR_rf _) dJ6_grow_2_44 ⟨e2, rfl, k1, k2, rfl⟩
  · have hc0 : c = 0 := by
      rcases Nat.eq_zero_or_pos c with q | q
      · exact q
      · exact absurd ((nI_ltI (by decide : 0 < 2 ^ 31) (by omega)).mpr q) e1
    subst hc0
    have hee := h0 rfl
    subst hee
    refine r_aload_n hC dJ6_grow_2_10 rfl (by first | rfl | exact zisR_rf _) ?_
    refine r_get hC 1 in_J6 (ci := 8) rfl hb (by decide) ⟨rfl, rfl, rfl⟩ q126 rfl dJ6_grow_2_11 ?_
    refine r_gets hC (zk_de hC) q124 dJ6_grow_2_14 ?_
    refine r_acmp_eq hC dJ6_grow_2_17 (tgt := 45) (by decide) (x := some Z.1.2.2.2.2.2.1) (y := some Z.1.2.2.2.2.2.1) rfl rfl (fun _ => ?_) (fun e => absurd rfl e)
    refine r_aload_n hC dJ6_grow_2_45 rfl (by first | rfl | exact zisR_rf _) ?_
    refine r_bipush hC dJ6_grow_2_46 (v := (nI 10)) (by decide) ?_
    refine r_iload_n hC dJ6_grow_2_48 rfl ?_
    refine r_max hC q254 q214 q47 q215 (Nat.le_of_ble_eq_true rfl) (Nat.le_of_ble_eq_true rfl) (Nat.le_of_ble_eq_true rfl) dJ6_grow_2_49 ?_
    rw [zmax_nI (by decide) (by decide), show (if 10 < 0 + 1 then 0 + 1 else 10) = 10 from rfl]
    have hz10 : zgrow 0 = 10 := rfl
    refine r_newq hC 5 (by decide) rfl (zk_AO hC) q255 rfl (by decide) (cb' := 0) (sb' := 0) (by omega) (by omega) dJ6_grow_2_52 (fun e2 he2 hAe2 => ?_)
    have hb2 : b ≠ e2 := fun q => by rw [q, he2] at hb; cases hb
    have hb' : zup h e2 (.inl (5, 10, fun _ => .null)) b = some (.inr (8, [.int mc, .ref Z.1.2.2.2.2.2.1, .int (nI 0)])) := by rw [zup_n hb2]; exact hb
    have hf0 : va_cpy f (fun _ => Value.null) 0 0 0 = fun _ => .null := by funext k; simp [va_cpy]
    rw [hf0] at hE
    refine r_dup_x1 hC dJ6_grow_2_55 (by first | rfl | exact zcat1 _) (by first | rfl | exact zcat1 _) ?_
    refine r_put hC 1 in_J6 tyJ6 tyJ6_ok nmJ6 (ci := 8) rfl (by assumption) hb' (by decide) ⟨rfl, rfl, rfl, rfl⟩ q126 (by decide +kernel : parseFieldDescriptor "[Ljava/lang/Object;" = some (.array (.object "java/lang/Object"))) rfl rfl (by simp) rfl dJ6_grow_2_56 ?_
    exact r_aret hC hE rfl (by first | exact Or.inl ⟨_, rfl⟩ | exact Or.inr ⟨_, rfl⟩) (by first | rfl | exact zisR_rf _) dJ6_grow_2_59 ⟨e2, rfl, he2, hAe2, rfl⟩
theorem c_grow (hl : l.stackTraces = false) (h : zH) (b e c : Nat) (mc : Int32) (f : Nat → Value) (hA : zA g b) (hb : h b = some (.inr (8, [.int mc, .ref e, .int (nI c)]))) (he : h e = some (.inl (5, c, f))) (h0 : c = 0 → e = g.2.2.2.2.2.1) (hc : c < 600) (hel : ∀ j, j < c → zEl h (f j)) :
    zM g l yJ6_grow (ws_ yJ6_grow cJ6_grow 1 (some (.array (.object "java/lang/Object")))) 4 127 1 (2 * c + 10) [.ref b] h (fun u h' => ∃ e2 : Nat, u = some (.ref e2) ∧ h e2 = none ∧ zA g e2 ∧ h' = zup (zup h e2 (.inl (5, zgrow c, va_cpy f (fun _ => .null) 0 0 c))) b (.inr (8, [.int mc, .ref e2, .int (nI c)]))) zNx := by
  refine zM.of (cc := cJ6_grow) (nL := 1) (ret := (some (.array (.object "java/lang/Object")))) (by decide) hl (zcat rfl) (Nat.le_of_ble_eq_true rfl) ?_
  intro Z hg hz hC hE hN
  subst hg
  subst hz
  change zW Z _ _ _ 0 [some _] []
  have hst := hC.2.2.2.2.2.2.2.1
  refine r_aload_n hC dJ6_grow_0 rfl (by first | rfl | exact zisR_rf _) ?_
  refine r_aload_n hC dJ6_grow_1 rfl (by first | rfl | exact zisR_rf _) ?_
  refine r_get hC 2 in_J6 (ci := 8) rfl hb (by decide) ⟨rfl, rfl, rfl⟩ q127 rfl dJ6_grow_2 ?_
  refine r_iconst hC dJ6_grow_5 (v := (nI 1)) (by decide) ?_
  first | refine r_iaddN hC dJ6_grow_6 ?_ | refine r_iadd hC dJ6_grow_6 ?_
  refine r_callV hC (c_grow2 hst h b e c mc f hA hb he h0 hc hel) hb rfl q206 q208 qs2 q43 q209 (n := 1) (by decide +kernel) rfl (Nat.le_of_ble_eq_true rfl) (Nat.le_of_ble_eq_true rfl) rfl (Nat.le_of_ble_eq_true rfl) (cb' := 0) (sb' := 0) (by omega) (by omega) dJ6_grow_7 znx (fun v9 h9 e9 => ?_)
  obtain ⟨e2, rfl, k1, k2, rfl⟩ := e9
  exact r_aret hC hE rfl (by first | exact Or.inl ⟨_, rfl⟩ | exact Or.inr ⟨_, rfl⟩) (by first | rfl | exact zisR_rf _) dJ6_grow_10 ⟨e2, rfl, k1, k2, rfl⟩
/-- behind an add: list b has array e2 now, n + 1 elements, the last one v -/
def zAd (g : zG) (h : zH) (b e n : Nat) (mc : Int32) (f : Nat → Value) (c : Nat) (y : Nat) : zH → Prop := fun h' => ∃ (e2 c2 : Nat) (f2 : Nat → Value), h' = zup (zup h b (.inr (8, [.int mc, .ref e2, .int (nI (n + 1))]))) e2 (.inl (5, c2, f2)) ∧ (e2 = e ∧ n < c ∧ c2 = c ∨ h e2 = none ∧ n = c ∧ c2 = zgrow c) ∧ zA g e2 ∧ e2 ≠ b ∧ n + 1 ≤ c2 ∧ (∀ j, j < n → f2 j = f j) ∧ f2 n = .ref y
theorem zup_c {h : zH} {a b : Nat} {e e' : zE} (hn : a ≠ b) : zup (zup h a e) b e' = zup (zup h b e') a e := by
  funext q
  unfold zup
  by_cases h1 : q = a <;> by_cases h2 : q = b <;> simp_all
theorem c_add2 (hl : l.stackTraces = false) (h : zH) (b e n c y ci : Nat) (mc : Int32) (f : Nat → Value) (fs : List Value) (r : vw_C) (hA : zA g b) (hb : h b = some (.inr (8, [.int mc, .ref e, .int (nI n)]))) (he : h e = some (.inl (5, c, f))) (heA : zA g e ∨ c = 0) (h0 : c = 0 → e = g.2.2.2.2.2.1) (hn : n ≤ c) (hc : c < 600) (hel : ∀ j, j < n → zEl h (f j)) (hy : h y = some (.inr (ci, fs))) (hr : zcl[ci]? = some r) (hca : (r.1, "java/lang/Object") ∈ zCa) :
    zM g l yJ6_add_2 (ws_ yJ6_add_2 cJ6_add_2 4 none) 5 147 (if n = c then 1 else 0) (if n = c then 2 * c + 10 else 0) [.ref b, .ref y, .ref e, .int (nI n)] h (fun u h' => u = none ∧ zAd g h b e n mc f c y h') zNx := by
  refine zM.of (cc := cJ6_add_2) (nL := 4) (ret := none) (by decide) hl (zcat rfl) (Nat.le_of_ble_eq_true rfl) ?_
  intro Z hg hz hC hE hN
  subst hg
  subst hz
  change zW Z _ _ _ 0 [some _, some _, some _, some _] []
  have hst := hC.2.2.2.2.2.2.2.1
  have hg := zgrow_gt c
  have hbe : b ≠ e := fun q => by rw [q, he] at hb; cases hb
  refine r_iload_n hC dJ6_add_2_0 rfl ?_
  refine r_aload_n hC dJ6_add_2_1 rfl (by first | rfl | exact zisR_rf _) ?_
  refine r_alen hC dJ6_add_2_2 he ?_
  refine r_icmp_neN hC dJ6_add_2_3 (tgt := 11) (by decide) (by omega) (by omega) (fun e1 => ?_) (fun e1 => ?_)
  · have hlt : n < c := by omega
    have hAe : zA Z.1 e := heA.resolve_right (by omega)
    refine r_aload_n hC dJ6_add_2_11 rfl (by first | rfl | exact zisR_rf _) ?_
    refine r_iload_n hC dJ6_add_2_12 rfl ?_
    refine r_aload_n hC dJ6_add_2_13 rfl (by first | rfl | exact zisR_rf _) ?_
    refine r_astq hC 5 ci dJ6_add_2_14 he rfl hAe hy hr (Or.inl hca) (vp_in_nI hlt (by omega)) ?_
    rw [nI_clamp (by omega)]
    have hb' : zup h e (.inl (5, c, zst f n (.ref y))) b = some (.inr (8, [.int mc, .ref e, .int (nI n)])) := by rw [zup_n hbe]; exact hb
    refine r_aload_n hC dJ6_add_2_15 rfl (by first | rfl | exact zisR_rf _) ?_
    refine r_iload_n hC dJ6_add_2_16 rfl ?_
    refine r_iconst hC dJ6_add_2_17 (v := (nI 1)) (by decide) ?_
    first | refine r_iaddN hC dJ6_add_2_18 ?_ | refine r_iadd hC dJ6_add_2_18 ?_
    refine r_put hC 2 in_J6 tyJ6 tyJ6_ok nmJ6 (ci := 8) rfl (by assumption) hb' (by decide) ⟨rfl, rfl, rfl, rfl⟩ q127 (by decide +kernel : parseFieldDescriptor "I" = some (.int)) rfl rfl (by simp) rfl dJ6_add_2_19 ?_
    exact r_vret hC hE rfl dJ6_add_2_22 ⟨rfl, e, c, _, zup_c (Ne.symm hbe), Or.inl ⟨rfl, hlt, rfl⟩, hAe, Ne.symm hbe, hlt, fun j hj => by simp only [zst]; rw [if_neg (by omega)], by simp [zst]⟩
  · subst e1
    rw [if_pos rfl, if_pos rfl]
    refine r_aload_n hC dJ6_add_2_6 rfl (by first | rfl | exact zisR_rf _) ?_
    refine r_callV hC (c_grow hst h b e n mc f hA hb he h0 hc hel) hb rfl q202 q204 qs1 q43 q205 (n := 0) (by decide +kernel) rfl (Nat.le_of_ble_eq_true rfl) (Nat.le_of_ble_eq_true rfl) rfl (Nat.le_of_ble_eq_true rfl) (cb' := 0) (sb' := 0) (by omega) (by omega) dJ6_add_2_7 znx (fun v9 h9 e9 => ?_)
    obtain ⟨e2, rfl, k1, k2, rfl⟩ := e9
    have hb2 : b ≠ e2 := fun q => by rw [q, k1] at hb; cases hb
    refine r_ast2 hC dJ6_add_2_10 (by first | rfl | exact zisR_rf _) ?_
    refine r_aload_n hC dJ6_add_2_11 rfl (by first | rfl | exact zisR_rf _) ?_
    refine r_iload_n hC dJ6_add_2_12 rfl ?_
    refine r_aload_n hC dJ6_add_2_13 rfl (by first | rfl | exact zisR_rf _) ?_
    have hyb : y ≠ b := fun q => by rw [q, hb] at hy; obtain ⟨rfl, -⟩ := Prod.mk.inj (Sum.inr.inj (Option.some.inj hy)); cases hr; exact absurd hca (by decide +kernel)
    have hye : y ≠ e2 := fun q => by rw [q, k1] at hy; cases hy
    refine r_astq hC 5 ci dJ6_add_2_14 (by rw [zup_n (Ne.symm hb2)]; exact zup_s) rfl k2 (by rw [zup_n hyb, zup_n hye]; exact hy) hr (Or.inl hca) (vp_in_nI hg.1 (by omega)) ?_
    rw [nI_clamp (by omega)]
    have hb' : zup (zup (zup h e2 (.inl (5, zgrow n, va_cpy f (fun _ => .null) 0 0 n))) b (.inr (8, [.int mc, .ref e2, .int (nI n)]))) e2 (.inl (5, zgrow n, zst (va_cpy f (fun _ => .null) 0 0 n) n (.ref y))) b = some (.inr (8, [.int mc, .ref e2, .int (nI n)])) := by rw [zup_n hb2]; exact zup_s
    refine r_aload_n hC dJ6_add_2_15 rfl (by first | rfl | exact zisR_rf _) ?_
    refine r_iload_n hC dJ6_add_2_16 rfl ?_
    refine r_iconst hC dJ6_add_2_17 (v := (nI 1)) (by decide) ?_
    first | refine r_iaddN hC dJ6_add_2_18 ?_ | refine r_iadd hC dJ6_add_2_18 ?_
    refine r_put hC 2 in_J6 tyJ6 tyJ6_ok nmJ6 (ci := 8) rfl (by assumption) hb' (by decide) ⟨rfl, rfl, rfl, rfl⟩ q127 (by decide +kernel : parseFieldDescriptor "I" = some (.int)) rfl rfl (by simp) rfl dJ6_add_2_19 ?_
    exact r_vret hC hE rfl dJ6_add_2_22 ⟨rfl, e2, zgrow n, zst (va_cpy f (fun _ => .null) 0 0 n) n (.ref y), by (rw [zup_c (h := h) (Ne.symm hb2), zup_zup, zup_c (h := zup h b _) (Ne.symm hb2), zup_zup]; rfl), Or.inr ⟨k1, rfl, rfl⟩, k2, Ne.symm hb2, hg.1, fun j hj => by simp only [zst]; rw [if_neg (by omega)]; simp only [va_cpy]; rw [if_pos (by omega)]; simp, by simp [zst]⟩
theorem c_add (hl : l.stackTraces = false) (h : zH) (b e n c y ci : Nat) (mc : Int32) (f : Nat → Value) (fs : List Value) (r : vw_C) (hA : zA g b) (hb : h b = some (.inr (8, [.int mc, .ref e, .int (nI n)]))) (he : h e = some (.inl (5, c, f))) (heA : zA g e ∨ c = 0) (h0 : c = 0 → e = g.2.2.2.2.2.1) (hn : n ≤ c) (hc : c < 600) (hel : ∀ j, j < n → zEl h (f j)) (hy : h y = some (.inr (ci, fs))) (hr : zcl[ci]? = some r) (hca : (r.1, "java/lang/Object") ∈ zCa) :
    zM g l yJ6_add (ws_ yJ6_add cJ6_add 2 (some .boolean)) 6 170 (if n = c then 1 else 0) (if n = c then 2 * c + 10 else 0) [.ref b, .ref y] h (fun u h' => u = some (.int 1) ∧ zAd g h b e n (mc + 1) f c y h') zNx := by
  refine zM.of (cc := cJ6_add) (nL := 2) (ret := (some .boolean)) (by decide) hl (zcat rfl) (Nat.le_of_ble_eq_true rfl) ?_
  intro Z hg hz hC hE hN
  subst hg
  subst hz
  change zW Z _ _ _ 0 [some _, some _] []
  have hst := hC.2.2.2.2.2.2.2.1
  have hbe : b ≠ e := fun q => by rw [q, he] at hb; cases hb
  have hyb : y ≠ b := fun q => by rw [q, hb] at hy; obtain ⟨rfl, -⟩ := Prod.mk.inj (Sum.inr.inj (Option.some.inj hy)); cases hr; exact absurd hca (by decide +kernel)
  refine r_aload_n hC dJ6_add_0 rfl (by first | rfl | exact zisR_rf _) ?_
  refine r_dup hC dJ6_add_1 (by first | rfl | exact zcat1 _) ?_
  refine r_getS hC 0 in_J6 (ci := 8) rfl hb (by decide) ⟨rfl, rfl, rfl⟩ q129 q130 rfl dJ6_add_2 ?_
  refine r_iconst hC dJ6_add_5 (v := (nI 1)) (by decide) ?_
  first | refine r_iaddN hC dJ6_add_6 ?_ | refine r_iadd hC dJ6_add_6 ?_
  refine r_putS hC 0 in_J6 tyJ6 tyJ6_ok nmJ6 (ci := 8) rfl (by assumption) hb (by decide) ⟨rfl, rfl, rfl, rfl⟩ q129 q130 (by decide +kernel : parseFieldDescriptor "I" = some .int) rfl rfl (by simp) rfl dJ6_add_7 ?_
  have hb' : zup h b (.inr (8, [.int (mc + nI 1), .ref e, .int (nI n)])) b = some (.inr (8, [.int (mc + nI 1), .ref e, .int (nI n)])) := zup_s
  refine r_aload_n hC dJ6_add_10 rfl (by first | rfl | exact zisR_rf _) ?_
  refine r_aload_n hC dJ6_add_11 rfl (by first | rfl | exact zisR_rf _) ?_
  refine r_aload_n hC dJ6_add_12 rfl (by first | rfl | exact zisR_rf _) ?_
  refine r_get hC 1 in_J6 (ci := 8) rfl hb' (by decide) ⟨rfl, rfl, rfl⟩ q126 rfl dJ6_add_13 ?_
  refine r_aload_n hC dJ6_add_16 rfl (by first | rfl | exact zisR_rf _) ?_
  refine r_get hC 2 in_J6 (ci := 8) rfl hb' (by decide) ⟨rfl, rfl, rfl⟩ q127 rfl dJ6_add_17 ?_
  have hel' : ∀ j, j < n → zEl (zup h b (.inr (8, [.int (mc + nI 1), .ref e, .int (nI n)]))) (f j) := fun j hj => (hel j hj).put hb (by decide +kernel)
  refine r_callV hC (c_add2 hst _ b e n c y ci (mc + nI 1) f fs r hA hb' (by rw [zup_n (Ne.symm hbe)]; exact he) heA h0 hn hc hel' (by rw [zup_n hyb]; exact hy) hr hca) hb' rfl q198 q200 qs0 q43 q201 (n := 3) (by decide +kernel) rfl (Nat.le_of_ble_eq_true rfl) (Nat.le_of_ble_eq_true rfl) rfl (Nat.le_of_ble_eq_true rfl) (cb' := 0) (sb' := 0) (by omega) (by omega) dJ6_add_20 znx (fun v9 h9 e9 => ?_)
  obtain ⟨rfl, e2, c2, f2, rfl, k1, k2, k3, k4⟩ := e9
  rw [zup_zup]
  refine r_iconst hC dJ6_add_23 (v := (nI 1)) (by decide) ?_
  exact r_zret hC hE rfl (by first | rfl | exact nB_nz _ | exact nar_ch (by omega) | assumption) dJ6_add_24 ⟨rfl, e2, c2, f2, rfl, k1.imp id (fun q => ⟨by have := q.1; rw [zup_n k3] at this; exact this, q.2⟩), k2, k3, k4⟩
end JD2

