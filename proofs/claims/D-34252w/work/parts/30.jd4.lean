/-! JDK 4: Strings made, builders made, pieces moved -/
set_option maxRecDepth 100000
/-- a string with the word w of n bytes at q -/
def zStr (h : zH) (q n : Nat) (w : Nat → Nat) : Prop := ∃ (b : Nat) (f : Nat → Value), h q = some (.inr (7, [.ref b, .int 0])) ∧ h b = some (.inl (4, n, f)) ∧ zBy f w n
theorem zStr.le {h h' : zH} {q n : Nat} {w : Nat → Nat} (s : zStr h q n w) (l : zLe h h') : zStr h' q n w := by
  obtain ⟨b, f, h1, h2, h3⟩ := s
  exact ⟨b, f, l _ _ h1, l _ _ h2, h3⟩
theorem zBy.congr {f : Nat → Value} {w v : Nat → Nat} {n : Nat} (h : zBy f w n) (e : ∀ j, j < n → w j = v j) : zBy f v n := fun j hj => by
  rw [← e j hj]; exact h j hj
theorem zStr.congr {h : zH} {q n : Nat} {w v : Nat → Nat} (s : zStr h q n w) (e : ∀ j, j < n → w j = v j) : zStr h q n v := by
  obtain ⟨b, f, h1, h2, h3⟩ := s
  exact ⟨b, f, h1, h2, h3.congr e⟩
theorem zup_same {h : zH} {a : Nat} {e : zE} (he : h a = some e) : zup h a e = h := by
  funext b
  unfold zup
  by_cases c : b = a
  · rw [if_pos c, c, he]
  · rw [if_neg c]
theorem zcpy0 {f g : Nat → Value} {w v : Nat → Nat} {n k s : Nat} (hf : zBy f w n) (hk : s + k ≤ n) : zBy (va_cpy f g s 0 k) (fun j => w (s + j)) k := by
  intro j hj
  unfold va_cpy
  rw [if_pos ⟨Nat.zero_le _, by omega⟩, Nat.sub_zero]
  exact hf _ (by omega)
section JD4
variable {g : zG} {l : Launch}
theorem c_chkLen (hl : l.stackTraces = false) (h : zH) (i j : Nat) (hij : i ≤ j) (hj : j < 2 ^ 30) : zM g l yJ9_checkLength (ws_ yJ9_checkLength cJ9_checkLength 2 none) 0 0 0 0 [.int (nI i), .int (nI j)] h (zRv h) zNx := by
  refine zM.of (cc := cJ9_checkLength) (nL := 2) (ret := none) (by decide) hl (zcat rfl) (Nat.le_of_ble_eq_true rfl) ?_
  intro Z hg hz hC hE hN
  subst hg
  subst hz
  change zW Z _ _ _ 0 [some _, some _] []
  have hst := hC.2.2.2.2.2.2.2.1
  refine r_iload_n hC dJ9_checkLength_0 rfl ?_
  refine r_iload_n hC dJ9_checkLength_1 rfl ?_
  refine r_icmp_geN hC dJ9_checkLength_2 (tgt := 37) (by decide) (by omega) (by omega) (fun _ => ?_) (fun e => by omega)
  exact r_vret hC hE rfl dJ9_checkLength_37 ⟨rfl, rfl⟩
theorem c_corb (hl : l.stackTraces = false) (h : zH) (a n i j : Nat) (f : Nat → Value) (w : Nat → Nat) (ha : h a = some (.inl (4, n, f))) (hw : zBy f w n) (hij : i ≤ j) (hj : j ≤ n) (hn : n < 1000) : zM g l yJ9_copyOfRangeByte (ws_ yJ9_copyOfRangeByte cJ9_copyOfRangeByte 5 (some (.array .byte))) 1 60 1 (j - i) [.ref a, .int (nI i), .int (nI j)] h (fun u h' => ∃ b' : Nat, u = some (.ref b') ∧ h b' = none ∧ zA g b' ∧ h' = zup h b' (.inl (4, j - i, va_cpy f (fun _ => .int 0) i 0 (j - i)))) zNx := by
  refine zM.of (cc := cJ9_copyOfRangeByte) (nL := 5) (ret := (some (.array .byte))) (by decide) hl (zcat rfl) (Nat.le_of_ble_eq_true rfl) ?_
  intro Z hg hz hC hE hN
  subst hg
  subst hz
  change zW Z _ _ _ 0 [some _, some _, some _, none, none] []
  have hst := hC.2.2.2.2.2.2.2.1
  refine r_iload_n hC dJ9_copyOfRangeByte_0 rfl ?_
  refine r_iload_n hC dJ9_copyOfRangeByte_1 rfl ?_
  refine r_callS hC (c_chkLen hst h i j hij (by omega)) q463 q464 q48 q465 (n := 2) (by decide +kernel) rfl (Nat.le_of_ble_eq_true rfl) (Nat.le_of_ble_eq_true rfl) rfl (Nat.le_of_ble_eq_true rfl) (cb' := 1) (sb' := (j-i)) (by omega) (by omega) dJ9_copyOfRangeByte_2 znx (zrv ?_)
  refine r_iload_n hC dJ9_copyOfRangeByte_5 rfl ?_
  refine r_iload_n hC dJ9_copyOfRangeByte_6 rfl ?_
  refine r_isubN hC dJ9_copyOfRangeByte_7 hij ?_
  refine r_ist3 hC dJ9_copyOfRangeByte_8 ?_
  refine r_iload_n hC dJ9_copyOfRangeByte_9 rfl ?_
  refine r_newa hC 4 (atype := .byte) (by decide) rfl rfl q109 rfl (by omega) (cb' := 0) (sb' := 0) (by omega) (by omega) dJ9_copyOfRangeByte_10 (fun b2 hb2 hAb2 => ?_)
  have hab : a ≠ b2 := fun q => by rw [q, hb2] at ha; cases ha
  have ha' : (zup h b2 (.inl (4, j - i, fun _ => .int 0))) a = some (.inl (4, n, f)) := by rw [zup_n hab]; exact ha
  refine r_ast4 hC dJ9_copyOfRangeByte_12 (by first | rfl | exact zisR_rf _) ?_
  refine r_aload_n hC dJ9_copyOfRangeByte_14 rfl (by first | rfl | exact zisR_rf _) ?_
  refine r_iload_n hC dJ9_copyOfRangeByte_15 rfl ?_
  refine r_aload hC dJ9_copyOfRangeByte_16 rfl (by first | rfl | exact zisR_rf _) ?_
  refine r_iconst hC dJ9_copyOfRangeByte_18 (v := (nI 0)) (by decide) ?_
  refine r_aload_n hC dJ9_copyOfRangeByte_19 rfl (by first | rfl | exact zisR_rf _) ?_
  refine r_alen hC dJ9_copyOfRangeByte_20 ha' ?_
  refine r_iload_n hC dJ9_copyOfRangeByte_21 rfl ?_
  refine r_isubN hC dJ9_copyOfRangeByte_22 (by omega) ?_
  refine r_iload_n hC dJ9_copyOfRangeByte_23 rfl ?_
  refine r_min hC q248 q249 q47 q250 (Nat.le_of_ble_eq_true rfl) (Nat.le_of_ble_eq_true rfl) (Nat.le_of_ble_eq_true rfl) dJ9_copyOfRangeByte_24 ?_
  rw [zmin_nI (by omega) (by omega), show (if j - i < n - i then j - i else n - i) = j - i by split <;> omega]
  refine r_copy hC 4 (by decide) q251 (he0 := ha') (he := zup_s) (ha := hAb2) (b1 := (by omega)) (b2 := (by omega)) (b3 := (by omega)) (b4 := (by omega)) (dp := 0) (hel := fun x hx => ⟨fun _ => hw.el (by omega), fun q => absurd q (by decide)⟩) (Nat.le_of_ble_eq_true rfl) (Nat.le_of_ble_eq_true rfl) (Nat.le_of_ble_eq_true rfl) dJ9_copyOfRangeByte_27 ?_
  rw [zup_zup]
  refine r_aload hC dJ9_copyOfRangeByte_30 rfl (by first | rfl | exact zisR_rf _) ?_
  exact r_aret hC hE rfl (by first | exact Or.inl ⟨_, rfl⟩ | exact Or.inr ⟨_, rfl⟩) (by first | rfl | exact zisR_rf _) dJ9_copyOfRangeByte_32 ⟨b2, rfl, hb2, hAb2, rfl⟩
theorem c_cor (hl : l.stackTraces = false) (h : zH) (a n i j : Nat) (f : Nat → Value) (w : Nat → Nat) (ha : h a = some (.inl (4, n, f))) (hw : zBy f w n) (hij : i ≤ j) (hj : j ≤ n) (hne : i ≠ 0 ∨ j ≠ n) (hn : n < 1000) : zM g l yJ9_copyOfRange (ws_ yJ9_copyOfRange cJ9_copyOfRange 3 (some (.array .byte))) 2 84 1 (j - i) [.ref a, .int (nI i), .int (nI j)] h (fun u h' => ∃ b' : Nat, u = some (.ref b') ∧ h b' = none ∧ zA g b' ∧ h' = zup h b' (.inl (4, j - i, va_cpy f (fun _ => .int 0) i 0 (j - i)))) zNx := by
  refine zM.of (cc := cJ9_copyOfRange) (nL := 3) (ret := (some (.array .byte))) (by decide) hl (zcat rfl) (Nat.le_of_ble_eq_true rfl) ?_
  intro Z hg hz hC hE hN
  subst hg
  subst hz
  change zW Z _ _ _ 0 [some _, some _, some _] []
  have hst := hC.2.2.2.2.2.2.2.1
  have k10 : zW Z h 1 (j - i) 10 [some (.ref a), some (.int (nI i)), some (.int (nI j))] [] := by
    refine r_aload_n hC dJ9_copyOfRange_10 rfl (by first | rfl | exact zisR_rf _) ?_
    refine r_iload_n hC dJ9_copyOfRange_11 rfl ?_
    refine r_iload_n hC dJ9_copyOfRange_12 rfl ?_
    refine r_callS hC (c_corb hst h a n i j f w ha hw hij hj hn) q460 q461 q48 q462 (n := 3) (by decide +kernel) rfl (Nat.le_of_ble_eq_true rfl) (Nat.le_of_ble_eq_true rfl) rfl (Nat.le_of_ble_eq_true rfl) (cb' := 0) (sb' := 0) (by omega) (by omega) dJ9_copyOfRange_13 znx (fun v9 h9 e9 => ?_)
    obtain ⟨b', rfl, k1, k2, rfl⟩ := e9
    exact r_aret hC hE rfl (by first | exact Or.inl ⟨_, rfl⟩ | exact Or.inr ⟨_, rfl⟩) (by first | rfl | exact zisR_rf _) dJ9_copyOfRange_16 ⟨b', rfl, k1, k2, rfl⟩
  refine r_iload_n hC dJ9_copyOfRange_0 rfl ?_
  refine r_if_neN hC dJ9_copyOfRange_1 (tgt := 10) (by decide) (by omega) (fun _ => k10) (fun e1 => ?_)
  refine r_iload_n hC dJ9_copyOfRange_4 rfl ?_
  refine r_aload_n hC dJ9_copyOfRange_5 rfl (by first | rfl | exact zisR_rf _) ?_
  refine r_alen hC dJ9_copyOfRange_6 ha ?_
  refine r_icmp_eqN hC dJ9_copyOfRange_7 (tgt := 17) (by decide) (by omega) (by omega) (fun e2 => by omega) (fun _ => k10)
theorem c_sInit3 (hl : l.stackTraces = false) (h : zH) (q b : Nat) (hA : zA g q) (hq : h q = some (.inr (7, [.null, .int 0]))) : zM g l yJ2_init_3 (ws_ yJ2_init_3 cJ2_init_3 3 none) 1 20 0 0 [.ref q, .ref b, .int 0] h (zRv (zup h q (.inr (7, [.ref b, .int 0])))) zNx := by
  refine zM.of (cc := cJ2_init_3) (nL := 3) (ret := none) (by decide) hl (zcat rfl) (Nat.le_of_ble_eq_true rfl) ?_
  intro Z hg hz hC hE hN
  subst hg
  subst hz
  change zW Z _ _ _ 0 [some _, some _, some _] []
  have hst := hC.2.2.2.2.2.2.2.1
  refine r_aload_n hC dJ2_init_3_0 rfl (by first | rfl | exact zisR_rf _) ?_
  refine r_objInit hC q449 q75 q76 dJ2_init_3_1 (Nat.le_of_ble_eq_true rfl) (Nat.le_of_ble_eq_true rfl) (Nat.le_of_ble_eq_true rfl) ?_
  refine r_aload_n hC dJ2_init_3_4 rfl (by first | rfl | exact zisR_rf _) ?_
  refine r_aload_n hC dJ2_init_3_5 rfl (by first | rfl | exact zisR_rf _) ?_
  refine r_putF hC 0 in_J2b tyJ2 tyJ2b_ok nmJ2b (ci := 7) rfl hN (by assumption) hq (by decide) ⟨rfl, rfl, rfl, rfl⟩ q553 (by decide +kernel : parseFieldDescriptor "[B" = some (.array .byte)) rfl rfl (by simp) rfl dJ2_init_3_6 ?_
  refine r_aload_n hC dJ2_init_3_9 rfl (by first | rfl | exact zisR_rf _) ?_
  refine r_iload_n hC dJ2_init_3_10 rfl ?_
  refine r_putF hC 1 in_J2b tyJ2 tyJ2b_ok nmJ2b (ci := 7) rfl hN (by assumption) zup_s (by decide) ⟨rfl, rfl, rfl, rfl⟩ q554 (by decide +kernel : parseFieldDescriptor "B" = some (.byte)) (by first | rfl | exact nB_nz _ | exact nB_fz _) (by first | rfl | exact nB_nz _ | exact nB_fz _) (by simp) rfl dJ2_init_3_11 ?_
  rw [zup_zup]
  exact r_vret hC hE rfl dJ2_init_3_14 ⟨rfl, rfl⟩
theorem c_newStr (hl : l.stackTraces = false) (h : zH) (hS : zSt g h) (a n i k : Nat) (f : Nat → Value) (w : Nat → Nat) (ha : h a = some (.inl (4, n, f))) (hw : zBy f w n) (hik : i + k ≤ n) (hne : k = 0 ∨ i ≠ 0 ∨ i + k ≠ n) (hn : n < 1000) : zM g l yJ15_newString (ws_ yJ15_newString cJ15_newString 3 (some (.object "java/lang/String"))) 3 106 2 (k + 4) [.ref a, .int (nI i), .int (nI k)] h (fun u h' => ∃ q' : Nat, u = some (.ref q') ∧ zLe h h' ∧ zStr h' q' k (fun j => w (i + j))) zNx := by
  refine zM.of (cc := cJ15_newString) (nL := 3) (ret := (some (.object "java/lang/String"))) (by decide) hl (zcat rfl) (Nat.le_of_ble_eq_true rfl) ?_
  intro Z hg hz hC hE hN
  subst hg
  subst hz
  change zW Z _ _ _ 0 [some _, some _, some _] []
  have hst := hC.2.2.2.2.2.2.2.1
  refine r_iload_n hC dJ15_newString_0 rfl ?_
  refine r_if_neN hC dJ15_newString_1 (tgt := 7) (by decide) (by omega) (fun e1 => ?_) (fun e1 => ?_)
  · refine r_new hC in_J2b tyJ2 tyJ2b_ok (ci := 7) (fs := [.null, .int 0]) rfl q933 q442 q39 (by decide) (cb' := 1) (sb' := k) (by omega) (by omega) dJ15_newString_7 (fun q2 hq2 hAq2 => ?_)
    have haq : a ≠ q2 := fun e => by rw [e, hq2] at ha; cases ha
    have ha' : (zup h q2 (.inr (7, [.null, .int 0]))) a = some (.inl (4, n, f)) := by rw [zup_n haq]; exact ha
    refine r_dup hC dJ15_newString_10 (by first | rfl | exact zcat1 _) ?_
    refine r_aload_n hC dJ15_newString_11 rfl (by first | rfl | exact zisR_rf _) ?_
    refine r_iload_n hC dJ15_newString_12 rfl ?_
    refine r_iload_n hC dJ15_newString_13 rfl ?_
    refine r_iload_n hC dJ15_newString_14 rfl ?_
    first | refine r_iaddN hC dJ15_newString_15 ?_ | refine r_iadd hC dJ15_newString_15 ?_
    refine r_callS hC (c_cor hst _ a n i (i + k) f w ha' hw (by omega) hik (by omega) hn) q934 q458 q48 q459 (n := 3) (by decide +kernel) rfl (Nat.le_of_ble_eq_true rfl) (Nat.le_of_ble_eq_true rfl) rfl (Nat.le_of_ble_eq_true rfl) (cb' := 0) (sb' := 0) (by omega) (by omega) dJ15_newString_16 znx (fun v9 h9 e9 => ?_)
    obtain ⟨b', rfl, k1, k2, rfl⟩ := e9
    have hbq : b' ≠ q2 := fun e => by rw [e, zup_s] at k1; cases k1
    have hq' : (zup (zup h q2 (.inr (7, [.null, .int 0]))) b' (.inl (4, i + k - i, va_cpy f (fun _ => .int 0) i 0 (i + k - i)))) q2 = some (.inr (7, [.null, .int 0])) := by rw [zup_n (Ne.symm hbq)]; exact zup_s
    refine r_iconst hC dJ15_newString_19 (v := (nI 0)) (by decide) ?_
    refine r_callI hC (c_sInit3 hst _ q2 b' hAq2 hq') q935 q936 q39 q937 rfl (n := 2) (by decide +kernel) rfl (Nat.le_of_ble_eq_true rfl) (Nat.le_of_ble_eq_true rfl) rfl (Nat.le_of_ble_eq_true rfl) (Nat.le_refl _) (Nat.le_refl _) dJ15_newString_20 znx (zrv ?_)
    rw [zup_n hbq] at k1
    have hle : zLe h (zup (zup (zup h q2 (.inr (7, [.null, .int 0]))) b' (.inl (4, i + k - i, va_cpy f (fun _ => .int 0) i 0 (i + k - i)))) q2 (.inr (7, [.ref b', .int 0]))) := ((zLe.new hq2).put k1).put hq2
    exact r_aret hC hE rfl (by first | exact Or.inl ⟨_, rfl⟩ | exact Or.inr ⟨_, rfl⟩) (by first | rfl | exact zisR_rf _) dJ15_newString_23 ⟨q2, rfl, hle, b', _, zup_s, by rw [zup_n hbq, zup_s, show i + k - i = k by omega], zcpy0 (v := w) hw hik⟩
  · subst e1
    obtain ⟨s1, ⟨f0, s2⟩, -⟩ := hS
    refine r_ldcS hC (zk_l151 hC) dJ15_newString_4 ?_
    exact r_aret hC hE rfl (by first | exact Or.inl ⟨_, rfl⟩ | exact Or.inr ⟨_, rfl⟩) (by first | rfl | exact zisR_rf _) dJ15_newString_6 ⟨_, rfl, zLe.rf, _, f0, s1, s2, fun j hj => by omega⟩
theorem c_sGetB (hl : l.stackTraces = false) (h : zH) (q sb d n k o : Nat) (fs f : Nat → Value) (w : Nat → Nat) (hq : h q = some (.inr (7, [.ref sb, .int 0]))) (hsb : h sb = some (.inl (4, k, fs))) (hd : h d = some (.inl (4, n, f))) (hA : zA g d) (hw : zBy fs w k) (ho : o + k ≤ n) (hn : n < 1000) : zM g l yJ2_getBytes (ws_ yJ2_getBytes cJ2_getBytes 4 none) 1 60 0 0 [.ref q, .ref d, .int (nI o), .int 0] h (zRv (zup h d (.inl (4, n, va_cpy fs f 0 o k)))) zNx := by
  refine zM.of (cc := cJ2_getBytes) (nL := 4) (ret := none) (by decide) hl (zcat rfl) (Nat.le_of_ble_eq_true rfl) ?_
  intro Z hg hz hC hE hN
  subst hg
  subst hz
  change zW Z _ _ _ 0 [some _, some _, some _, some _] []
  have hst := hC.2.2.2.2.2.2.2.1
  refine r_aload_n hC dJ2_getBytes_0 rfl (by first | rfl | exact zisR_rf _) ?_
  refine r_callV hC (c_coder hst h q sb hq) hq rfl q373 q374 q375 q39 q376 (n := 0) (by decide +kernel) rfl (Nat.le_of_ble_eq_true rfl) (Nat.le_of_ble_eq_true rfl) rfl (Nat.le_of_ble_eq_true rfl) (Nat.le_refl _) (Nat.le_refl _) dJ2_getBytes_1 znx (zri ?_)
  refine r_iload_n hC dJ2_getBytes_4 rfl ?_
  refine r_icmp_ne hC dJ2_getBytes_5 (tgt := 28) (by decide) (fun e => absurd rfl e) (fun _ => ?_)
  refine r_aload_n hC dJ2_getBytes_8 rfl (by first | rfl | exact zisR_rf _) ?_
  refine r_get hC 0 in_J2b (ci := 7) rfl hq (by decide) ⟨rfl, rfl, rfl⟩ q553 rfl dJ2_getBytes_9 ?_
  refine r_iconst hC dJ2_getBytes_12 (v := (nI 0)) (by decide) ?_
  refine r_aload_n hC dJ2_getBytes_13 rfl (by first | rfl | exact zisR_rf _) ?_
  refine r_iload_n hC dJ2_getBytes_14 rfl ?_
  refine r_iload_n hC dJ2_getBytes_15 rfl ?_
  refine r_ishl hC dJ2_getBytes_16 ?_
  rw [nI_sl0]
  refine r_aload_n hC dJ2_getBytes_17 rfl (by first | rfl | exact zisR_rf _) ?_
  refine r_get hC 0 in_J2b (ci := 7) rfl hq (by decide) ⟨rfl, rfl, rfl⟩ q553 rfl dJ2_getBytes_18 ?_
  refine r_alen hC dJ2_getBytes_21 hsb ?_
  refine r_copy hC 4 (by decide) q410 (he0 := hsb) (he := hd) (ha := hA) (b1 := (by omega)) (b2 := (by omega)) (b3 := (by omega)) (b4 := (by omega)) (sp := 0) (hel := fun x hx => ⟨fun _ => hw.el (by omega), fun q => absurd q (by decide)⟩) (Nat.le_of_ble_eq_true rfl) (Nat.le_of_ble_eq_true rfl) (Nat.le_of_ble_eq_true rfl) dJ2_getBytes_22 ?_
  refine r_goto hC dJ2_getBytes_25 (tgt := 43) (by decide) ?_
  exact r_vret hC hE rfl dJ2_getBytes_43 ⟨rfl, rfl⟩
theorem c_bInfl (hl : l.stackTraces = false) (h : zH) (q b s sb : Nat) (m k : Int32) (hq : h q = some (.inr (6, [.ref b, .int 0, .int m, .int k]))) (hs : h s = some (.inr (7, [.ref sb, .int 0]))) : zM g l yJ0_inflateIfNeededFor (ws_ yJ0_inflateIfNeededFor cJ0_inflateIfNeededFor 2 none) 1 20 0 0 [.ref q, .ref s] h (zRv h) zNx := by
  refine zM.of (cc := cJ0_inflateIfNeededFor) (nL := 2) (ret := none) (by decide) hl (zcat rfl) (Nat.le_of_ble_eq_true rfl) ?_
  intro Z hg hz hC hE hN
  subst hg
  subst hz
  change zW Z _ _ _ 0 [some _, some _] []
  have hst := hC.2.2.2.2.2.2.2.1
  refine r_gets hC (zk_cs hC) q86 dJ0_inflateIfNeededFor_0 ?_
  refine r_if_eq hC dJ0_inflateIfNeededFor_3 (tgt := 21) (by decide) (fun e => absurd e (by decide)) (fun _ => ?_)
  refine r_aload_n hC dJ0_inflateIfNeededFor_6 rfl (by first | rfl | exact zisR_rf _) ?_
  refine r_get hC 1 in_J1 (ci := 6) rfl hq (by decide) ⟨rfl, rfl, rfl⟩ q96 rfl dJ0_inflateIfNeededFor_7 ?_
  refine r_aload_n hC dJ0_inflateIfNeededFor_10 rfl (by first | rfl | exact zisR_rf _) ?_
  refine r_callV hC (c_coder hst h s sb hs) hs rfl q386 q374 q375 q39 q376 (n := 0) (by decide +kernel) rfl (Nat.le_of_ble_eq_true rfl) (Nat.le_of_ble_eq_true rfl) rfl (Nat.le_of_ble_eq_true rfl) (Nat.le_refl _) (Nat.le_refl _) dJ0_inflateIfNeededFor_11 znx (zri ?_)
  refine r_icmp_eq hC dJ0_inflateIfNeededFor_14 (tgt := 21) (by decide) (fun _ => ?_) (fun e => absurd rfl e)
  exact r_vret hC hE rfl dJ0_inflateIfNeededFor_21 ⟨rfl, rfl⟩
theorem c_bPut (hl : l.stackTraces = false) (h : zH) (q b s sb n k o : Nat) (fs f : Nat → Value) (w : Nat → Nat) (m c : Int32) (hq : h q = some (.inr (6, [.ref b, .int 0, .int m, .int c]))) (hb : h b = some (.inl (4, n, f))) (hB : zA g b) (hs : h s = some (.inr (7, [.ref sb, .int 0]))) (hsb : h sb = some (.inl (4, k, fs))) (hw : zBy fs w k) (ho : o + k ≤ n) (hn : n < 1000) : zM g l yJ0_putStringAt (ws_ yJ0_putStringAt cJ0_putStringAt 3 none) 2 83 0 0 [.ref q, .int (nI o), .ref s] h (zRv (zup h b (.inl (4, n, va_cpy fs f 0 o k)))) zNx := by
  refine zM.of (cc := cJ0_putStringAt) (nL := 3) (ret := none) (by decide) hl (zcat rfl) (Nat.le_of_ble_eq_true rfl) ?_
  intro Z hg hz hC hE hN
  subst hg
  subst hz
  change zW Z _ _ _ 0 [some _, some _, some _] []
  have hst := hC.2.2.2.2.2.2.2.1
  refine r_aload_n hC dJ0_putStringAt_0 rfl (by first | rfl | exact zisR_rf _) ?_
  refine r_aload_n hC dJ0_putStringAt_1 rfl (by first | rfl | exact zisR_rf _) ?_
  refine r_callP hC (c_bInfl hst h q b s sb m c hq hs) hq q382 q384 (by decide) q37 q385 (n := 1) (by decide +kernel) rfl (Nat.le_of_ble_eq_true rfl) (Nat.le_of_ble_eq_true rfl) rfl (Nat.le_of_ble_eq_true rfl) (Nat.le_refl _) (Nat.le_refl _) dJ0_putStringAt_2 znx (zrv ?_)
  refine r_aload_n hC dJ0_putStringAt_5 rfl (by first | rfl | exact zisR_rf _) ?_
  refine r_aload_n hC dJ0_putStringAt_6 rfl (by first | rfl | exact zisR_rf _) ?_
  refine r_get hC 0 in_J1 (ci := 6) rfl hq (by decide) ⟨rfl, rfl, rfl⟩ q95 rfl dJ0_putStringAt_7 ?_
  refine r_iload_n hC dJ0_putStringAt_10 rfl ?_
  refine r_aload_n hC dJ0_putStringAt_11 rfl (by first | rfl | exact zisR_rf _) ?_
  refine r_get hC 1 in_J1 (ci := 6) rfl hq (by decide) ⟨rfl, rfl, rfl⟩ q96 rfl dJ0_putStringAt_12 ?_
  refine r_callV hC (c_sGetB hst h s sb b n k o fs f w hs hsb hb hB hw ho hn) hs rfl q406 q407 q408 q39 q409 (n := 3) (by decide +kernel) rfl (Nat.le_of_ble_eq_true rfl) (Nat.le_of_ble_eq_true rfl) rfl (Nat.le_of_ble_eq_true rfl) (Nat.le_refl _) (Nat.le_refl _) dJ0_putStringAt_15 znx (zrv ?_)
  exact r_vret hC hE rfl dJ0_putStringAt_18 ⟨rfl, rfl⟩
theorem c_bAps0 (hl : l.stackTraces = false) (h : zH) (q b s sb n k c : Nat) (fs f : Nat → Value) (w : Nat → Nat) (m : Int32) (hA : zA g q) (hq : h q = some (.inr (6, [.ref b, .int 0, .int m, .int (nI c)]))) (hb : h b = some (.inl (4, n, f))) (hB : zA g b) (hs : h s = some (.inr (7, [.ref sb, .int 0]))) (hsb : h sb = some (.inl (4, k, fs))) (hw : zBy fs w k) (ho : c + k ≤ n) (hn : n < 1000) : zM g l yJ0_append (ws_ yJ0_append cJ0_append 3 (some (.object "java/lang/AbstractStringBuilder"))) 3 105 0 0 [.ref q, .ref s] h (zRi (.ref q) (zup (zup h b (.inl (4, n, va_cpy fs f 0 c k))) q (.inr (6, [.ref b, .int 0, .int m, .int (nI (c + k))])))) zNx := by
  refine zM.of (cc := cJ0_append) (nL := 3) (ret := (some (.object "java/lang/AbstractStringBuilder"))) (by decide) hl (zcat rfl) (Nat.le_of_ble_eq_true rfl) ?_
  intro Z hg hz hC hE hN
  subst hg
  subst hz
  change zW Z _ _ _ 0 [some _, some _, none] []
  have hst := hC.2.2.2.2.2.2.2.1
  have hqb : q ≠ b := fun e => by rw [e, hb] at hq; cases hq
  refine r_aload_n hC dJ0_append_0 rfl (by first | rfl | exact zisR_rf _) ?_
  refine r_ifnonnull hC dJ0_append_1 (tgt := 9) (by decide) (x := some s) rfl (fun _ _ => ?_) (fun e => nomatch e)
  refine r_aload_n hC dJ0_append_9 rfl (by first | rfl | exact zisR_rf _) ?_
  refine r_callV hC (c_slen hst h s sb k fs hs hsb (by omega)) hs rfl q369 q370 q371 q39 q372 (n := 0) (by decide +kernel) rfl (Nat.le_of_ble_eq_true rfl) (Nat.le_of_ble_eq_true rfl) rfl (Nat.le_of_ble_eq_true rfl) (Nat.le_refl _) (Nat.le_refl _) dJ0_append_10 znx (zri ?_)
  refine r_ist2 hC dJ0_append_13 ?_
  refine r_aload_n hC dJ0_append_14 rfl (by first | rfl | exact zisR_rf _) ?_
  refine r_aload_n hC dJ0_append_15 rfl (by first | rfl | exact zisR_rf _) ?_
  refine r_get hC 3 in_J1 (ci := 6) rfl hq (by decide) ⟨rfl, rfl, rfl⟩ q99 rfl dJ0_append_16 ?_
  refine r_iload_n hC dJ0_append_19 rfl ?_
  first | refine r_iaddN hC dJ0_append_20 ?_ | refine r_iadd hC dJ0_append_20 ?_
  refine r_callP hC (c_bEns hst h q b n (c + k) f m (nI c) hq hb ho (by omega)) hq q318 q320 (by decide) q37 q321 (n := 1) (by decide +kernel) rfl (Nat.le_of_ble_eq_true rfl) (Nat.le_of_ble_eq_true rfl) rfl (Nat.le_of_ble_eq_true rfl) (Nat.le_refl _) (Nat.le_refl _) dJ0_append_21 znx (zrv ?_)
  refine r_aload_n hC dJ0_append_24 rfl (by first | rfl | exact zisR_rf _) ?_
  refine r_aload_n hC dJ0_append_25 rfl (by first | rfl | exact zisR_rf _) ?_
  refine r_get hC 3 in_J1 (ci := 6) rfl hq (by decide) ⟨rfl, rfl, rfl⟩ q99 rfl dJ0_append_26 ?_
  refine r_aload_n hC dJ0_append_29 rfl (by first | rfl | exact zisR_rf _) ?_
  refine r_callP hC (c_bPut hst h q b s sb n k c fs f w m (nI c) hq hb hB hs hsb hw ho hn) hq q378 q380 (by decide) q37 q381 (n := 2) (by decide +kernel) rfl (Nat.le_of_ble_eq_true rfl) (Nat.le_of_ble_eq_true rfl) rfl (Nat.le_of_ble_eq_true rfl) (Nat.le_refl _) (Nat.le_refl _) dJ0_append_30 znx (zrv ?_)
  have hq' : (zup h b (.inl (4, n, va_cpy fs f 0 c k))) q = some (.inr (6, [.ref b, .int 0, .int m, .int (nI c)])) := by rw [zup_n hqb]; exact hq
  refine r_aload_n hC dJ0_append_33 rfl (by first | rfl | exact zisR_rf _) ?_
  refine r_dup hC dJ0_append_34 (by first | rfl | exact zcat1 _) ?_
  refine r_get hC 3 in_J1 (ci := 6) rfl hq' (by decide) ⟨rfl, rfl, rfl⟩ q99 rfl dJ0_append_35 ?_
  refine r_iload_n hC dJ0_append_38 rfl ?_
  first | refine r_iaddN hC dJ0_append_39 ?_ | refine r_iadd hC dJ0_append_39 ?_
  refine r_put hC 3 in_J1 tyJ1 tyJ1_ok nmJ1 (ci := 6) rfl (by assumption) hq' (by decide) ⟨rfl, rfl, rfl, rfl⟩ q99 (by decide +kernel : parseFieldDescriptor "I" = some (.int)) rfl rfl (by simp) rfl dJ0_append_40 ?_
  refine r_aload_n hC dJ0_append_43 rfl (by first | rfl | exact zisR_rf _) ?_
  exact r_aret hC hE rfl (by first | exact Or.inl ⟨_, rfl⟩ | exact Or.inr ⟨_, rfl⟩) (by first | rfl | exact zisR_rf _) dJ0_append_44 ⟨rfl, rfl⟩
theorem c_bAps (hl : l.stackTraces = false) (h : zH) (q b s sb n k c : Nat) (fs f : Nat → Value) (w : Nat → Nat) (m : Int32) (hA : zA g q) (hq : h q = some (.inr (6, [.ref b, .int 0, .int m, .int (nI c)]))) (hb : h b = some (.inl (4, n, f))) (hB : zA g b) (hs : h s = some (.inr (7, [.ref sb, .int 0]))) (hsb : h sb = some (.inl (4, k, fs))) (hw : zBy fs w k) (ho : c + k ≤ n) (hn : n < 1000) : zM g l yJ1_append (ws_ yJ1_append cJ1_append 2 (some (.object "java/lang/StringBuilder"))) 4 127 0 0 [.ref q, .ref s] h (zRi (.ref q) (zup (zup h b (.inl (4, n, va_cpy fs f 0 c k))) q (.inr (6, [.ref b, .int 0, .int m, .int (nI (c + k))])))) zNx := by
  refine zM.of (cc := cJ1_append) (nL := 2) (ret := (some (.object "java/lang/StringBuilder"))) (by decide) hl (zcat rfl) (Nat.le_of_ble_eq_true rfl) ?_
  intro Z hg hz hC hE hN
  subst hg
  subst hz
  change zW Z _ _ _ 0 [some _, some _] []
  have hst := hC.2.2.2.2.2.2.2.1
  refine r_aload_n hC dJ1_append_0 rfl (by first | rfl | exact zisR_rf _) ?_
  refine r_aload_n hC dJ1_append_1 rfl (by first | rfl | exact zisR_rf _) ?_
  refine r_callSU hC (c_bAps0 hst h q b s sb n k c fs f w m hA hq hb hB hs hsb hw ho hn) hq rfl q311 q1537 q108 q312 q37 q313 (n := 1) (by decide +kernel) rfl (Nat.le_of_ble_eq_true rfl) (Nat.le_of_ble_eq_true rfl) rfl (Nat.le_of_ble_eq_true rfl) (Nat.le_refl _) (Nat.le_refl _) dJ1_append_2 znx (zri ?_)
  refine r_pop hC dJ1_append_5 (by first | rfl | exact zcat1 _) ?_
  refine r_aload_n hC dJ1_append_6 rfl (by first | rfl | exact zisR_rf _) ?_
  exact r_aret hC hE rfl (by first | exact Or.inl ⟨_, rfl⟩ | exact Or.inr ⟨_, rfl⟩) (by first | rfl | exact zisR_rf _) dJ1_append_7 ⟨rfl, rfl⟩
theorem c_bAps4 (hl : l.stackTraces = false) (h : zH) (q b s sb n k c : Nat) (fs f : Nat → Value) (w : Nat → Nat) (m : Int32) (hA : zA g q) (hq : h q = some (.inr (6, [.ref b, .int 0, .int m, .int (nI c)]))) (hb : h b = some (.inl (4, n, f))) (hB : zA g b) (hs : h s = some (.inr (7, [.ref sb, .int 0]))) (hsb : h sb = some (.inl (4, k, fs))) (hw : zBy fs w k) (ho : c + k ≤ n) (hn : n < 1000) : zM g l yJ1_append_4 (ws_ yJ1_append_4 cJ1_append_4 2 (some (.object "java/lang/AbstractStringBuilder"))) 5 148 0 0 [.ref q, .ref s] h (zRi (.ref q) (zup (zup h b (.inl (4, n, va_cpy fs f 0 c k))) q (.inr (6, [.ref b, .int 0, .int m, .int (nI (c + k))])))) zNx := by
  refine zM.of (cc := cJ1_append_4) (nL := 2) (ret := (some (.object "java/lang/AbstractStringBuilder"))) (by decide) hl (zcat rfl) (Nat.le_of_ble_eq_true rfl) ?_
  intro Z hg hz hC hE hN
  subst hg
  subst hz
  change zW Z _ _ _ 0 [some _, some _] []
  have hst := hC.2.2.2.2.2.2.2.1
  refine r_aload_n hC dJ1_append_4_0 rfl (by first | rfl | exact zisR_rf _) ?_
  refine r_aload_n hC dJ1_append_4_1 rfl (by first | rfl | exact zisR_rf _) ?_
  refine r_callV hC (c_bAps hst h q b s sb n k c fs f w m hA hq hb hB hs hsb hw ho hn) hq rfl q1015 q308 q309 q38 q310 (n := 1) (by decide +kernel) rfl (Nat.le_of_ble_eq_true rfl) (Nat.le_of_ble_eq_true rfl) rfl (Nat.le_of_ble_eq_true rfl) (Nat.le_refl _) (Nat.le_refl _) dJ1_append_4_2 znx (zri ?_)
  exact r_aret hC hE rfl (by first | exact Or.inl ⟨_, rfl⟩ | exact Or.inr ⟨_, rfl⟩) (by first | rfl | exact zisR_rf _) dJ1_append_4_5 ⟨rfl, rfl⟩
theorem c_bInit0 (hl : l.stackTraces = false) (h : zH) (q : Nat) (hA : zA g q) (hq : h q = some (.inr (6, [.null, .int 0, .int 0, .int 0]))) : zM g l yJ0_init (ws_ yJ0_init cJ0_init 2 none) 1 20 1 16 [.ref q, .int (nI 16)] h (fun u h' => u = none ∧ ∃ b : Nat, h b = none ∧ zA g b ∧ h' = zup (zup h b (.inl (4, 16, fun _ => .int 0))) q (.inr (6, [.ref b, .int 0, .int 0, .int 0]))) zNx := by
  refine zM.of (cc := cJ0_init) (nL := 2) (ret := none) (by decide) hl (zcat rfl) (Nat.le_of_ble_eq_true rfl) ?_
  intro Z hg hz hC hE hN
  subst hg
  subst hz
  change zW Z _ _ _ 0 [some _, some _] []
  have hst := hC.2.2.2.2.2.2.2.1
  refine r_aload_n hC dJ0_init_0 rfl (by first | rfl | exact zisR_rf _) ?_
  refine r_objInit hC q85 q75 q76 dJ0_init_1 (Nat.le_of_ble_eq_true rfl) (Nat.le_of_ble_eq_true rfl) (Nat.le_of_ble_eq_true rfl) ?_
  refine r_gets hC (zk_cs hC) q86 dJ0_init_4 ?_
  refine r_if_eq hC dJ0_init_7 (tgt := 25) (by decide) (fun e => absurd e (by decide)) (fun _ => ?_)
  refine r_aload_n hC dJ0_init_10 rfl (by first | rfl | exact zisR_rf _) ?_
  refine r_iload_n hC dJ0_init_11 rfl ?_
  refine r_newa hC 4 (atype := .byte) (by decide) rfl rfl q109 rfl (by omega) (cb' := 0) (sb' := 0) (by omega) (by omega) dJ0_init_12 (fun b2 hb2 hAb2 => ?_)
  have hqb : q ≠ b2 := fun e => by rw [e, hb2] at hq; cases hq
  have hq' : (zup h b2 (.inl (4, 16, fun _ => .int 0))) q = some (.inr (6, [.null, .int 0, .int 0, .int 0])) := by rw [zup_n hqb]; exact hq
  refine r_put hC 0 in_J1 tyJ1 tyJ1_ok nmJ1 (ci := 6) rfl (by assumption) hq' (by decide) ⟨rfl, rfl, rfl, rfl⟩ q95 (by decide +kernel : parseFieldDescriptor "[B" = some (.array .byte)) rfl rfl (by simp) rfl dJ0_init_14 ?_
  refine r_aload_n hC dJ0_init_17 rfl (by first | rfl | exact zisR_rf _) ?_
  refine r_iconst hC dJ0_init_18 (v := (nI 0)) (by decide) ?_
  refine r_put hC 1 in_J1 tyJ1 tyJ1_ok nmJ1 (ci := 6) rfl (by assumption) zup_s (by decide) ⟨rfl, rfl, rfl, rfl⟩ q96 (by decide +kernel : parseFieldDescriptor "B" = some (.byte)) (by first | rfl | exact nB_nz _ | exact nB_fz _) (by first | rfl | exact nB_nz _ | exact nB_fz _) (by simp) rfl dJ0_init_19 ?_
  refine r_goto hC dJ0_init_22 (tgt := 38) (by decide) ?_
  rw [zup_zup]
  exact r_vret hC hE rfl dJ0_init_38 ⟨rfl, b2, hb2, hAb2, rfl⟩
theorem c_bInit (hl : l.stackTraces = false) (h : zH) (q : Nat) (hA : zA g q) (hq : h q = some (.inr (6, [.null, .int 0, .int 0, .int 0]))) : zM g l yJ1_init (ws_ yJ1_init cJ1_init 1 none) 2 41 1 16 [.ref q] h (fun u h' => u = none ∧ ∃ b : Nat, h b = none ∧ zA g b ∧ h' = zup (zup h b (.inl (4, 16, fun _ => .int 0))) q (.inr (6, [.ref b, .int 0, .int 0, .int 0]))) zNx := by
  refine zM.of (cc := cJ1_init) (nL := 1) (ret := none) (by decide) hl (zcat rfl) (Nat.le_of_ble_eq_true rfl) ?_
  intro Z hg hz hC hE hN
  subst hg
  subst hz
  change zW Z _ _ _ 0 [some _] []
  have hst := hC.2.2.2.2.2.2.2.1
  refine r_aload_n hC dJ1_init_0 rfl (by first | rfl | exact zisR_rf _) ?_
  refine r_bipush hC dJ1_init_1 (v := (nI 16)) (by decide) ?_
  refine r_callI hC (c_bInit0 hst h q hA hq) q82 q83 q37 q84 rfl (n := 1) (by decide +kernel) rfl (Nat.le_of_ble_eq_true rfl) (Nat.le_of_ble_eq_true rfl) rfl (Nat.le_of_ble_eq_true rfl) (cb' := 0) (sb' := 0) (by omega) (by omega) dJ1_init_3 znx (fun v9 h9 e9 => ?_)
  obtain ⟨rfl, b2, k1, k2, rfl⟩ := e9
  exact r_vret hC hE rfl dJ1_init_6 ⟨rfl, b2, k1, k2, rfl⟩
theorem c_bInits0 (hl : l.stackTraces = false) (h : zH) (q s sb k : Nat) (fs : Nat → Value) (w : Nat → Nat) (hA : zA g q) (hq : h q = some (.inr (6, [.null, .int 0, .int 0, .int 0]))) (hs : h s = some (.inr (7, [.ref sb, .int 0]))) (hsb : h sb = some (.inl (4, k, fs))) (hw : zBy fs w k) (hk : k < 100) : zM g l yJ0_init_2 (ws_ yJ0_init_2 cJ0_init_2 5 none) 6 169 1 (k + 16) [.ref q, .ref s] h (fun u h' => u = none ∧ ∃ b : Nat, h b = none ∧ zA g b ∧ h' = zup (zup h b (.inl (4, k + 16, va_cpy fs (fun _ => .int 0) 0 0 k))) q (.inr (6, [.ref b, .int 0, .int 0, .int (nI k)]))) zNx := by
  refine zM.of (cc := cJ0_init_2) (nL := 5) (ret := none) (by decide) hl (zcat rfl) (Nat.le_of_ble_eq_true rfl) ?_
  intro Z hg hz hC hE hN
  subst hg
  subst hz
  change zW Z _ _ _ 0 [some _, some _, none, none, none] []
  have hst := hC.2.2.2.2.2.2.2.1
  refine r_aload_n hC dJ0_init_2_0 rfl (by first | rfl | exact zisR_rf _) ?_
  refine r_objInit hC q85 q75 q76 dJ0_init_2_1 (Nat.le_of_ble_eq_true rfl) (Nat.le_of_ble_eq_true rfl) (Nat.le_of_ble_eq_true rfl) ?_
  refine r_aload_n hC dJ0_init_2_4 rfl (by first | rfl | exact zisR_rf _) ?_
  refine r_callV hC (c_slen hst h s sb k fs hs hsb (by omega)) hs rfl q369 q370 q371 q39 q372 (n := 0) (by decide +kernel) rfl (Nat.le_of_ble_eq_true rfl) (Nat.le_of_ble_eq_true rfl) rfl (Nat.le_of_ble_eq_true rfl) (cb' := 1) (sb' := (k+16)) (by omega) (by omega) dJ0_init_2_5 znx (zri ?_)
  refine r_ist2 hC dJ0_init_2_8 ?_
  refine r_iload_n hC dJ0_init_2_9 rfl ?_
  refine r_ldc hC (v := 2147483631) q1011 dJ0_init_2_10 ?_
  have hco : (2147483631 : Int32) = nI 2147483631 := rfl
  rw [hco]
  refine r_icmp_geN hC dJ0_init_2_12 (tgt := 22) (by decide) (by omega) (Nat.le_of_ble_eq_true rfl) (fun e => absurd e (by omega)) (fun _ => ?_)
  refine r_iload_n hC dJ0_init_2_15 rfl ?_
  refine r_bipush hC dJ0_init_2_16 (v := (nI 16)) (by decide) ?_
  first | refine r_iaddN hC dJ0_init_2_18 ?_ | refine r_iadd hC dJ0_init_2_18 ?_
  refine r_goto hC dJ0_init_2_19 (tgt := 24) (by decide) ?_
  refine r_ist3 hC dJ0_init_2_24 ?_
  refine r_aload_n hC dJ0_init_2_25 rfl (by first | rfl | exact zisR_rf _) ?_
  refine r_callV hC (c_coder hst h s sb hs) hs rfl q386 q374 q375 q39 q376 (n := 0) (by decide +kernel) rfl (Nat.le_of_ble_eq_true rfl) (Nat.le_of_ble_eq_true rfl) rfl (Nat.le_of_ble_eq_true rfl) (cb' := 1) (sb' := (k+16)) (by omega) (by omega) dJ0_init_2_26 znx (zri ?_)
  refine r_ist4 hC dJ0_init_2_29 ?_
  refine r_aload_n hC dJ0_init_2_31 rfl (by first | rfl | exact zisR_rf _) ?_
  refine r_iload hC dJ0_init_2_32 rfl ?_
  refine r_put hC 1 in_J1 tyJ1 tyJ1_ok nmJ1 (ci := 6) rfl (by assumption) hq (by decide) ⟨rfl, rfl, rfl, rfl⟩ q96 (by decide +kernel : parseFieldDescriptor "B" = some (.byte)) (by first | rfl | exact nB_nz _ | exact nB_fz _) (by first | rfl | exact nB_nz _ | exact nB_fz _) (by simp) rfl dJ0_init_2_34 ?_
  rw [show [Value.null, .int 0, .int 0, .int 0].set 1 (.int 0) = [.null, .int 0, .int 0, .int 0] from rfl, zup_same hq]
  refine r_aload_n hC dJ0_init_2_37 rfl (by first | rfl | exact zisR_rf _) ?_
  refine r_iload hC dJ0_init_2_38 rfl ?_
  refine r_if_ne hC dJ0_init_2_40 (tgt := 49) (by decide) (fun e => absurd rfl e) (fun _ => ?_)
  refine r_iload_n hC dJ0_init_2_43 rfl ?_
  refine r_newa hC 4 (atype := .byte) (by decide) rfl rfl q109 rfl (by omega) (cb' := 0) (sb' := 0) (by omega) (by omega) dJ0_init_2_44 (fun b2 hb2 hAb2 => ?_)
  have hqb : q ≠ b2 := fun e => by rw [e, hb2] at hq; cases hq
  have hsn : s ≠ b2 := fun e => by rw [e, hb2] at hs; cases hs
  have hsbn : sb ≠ b2 := fun e => by rw [e, hb2] at hsb; cases hsb
  have hsq : s ≠ q := fun e => by rw [e, hq] at hs; cases hs
  have hsbq : sb ≠ q := fun e => by rw [e, hq] at hsb; cases hsb
  have hq' : (zup h b2 (.inl (4, k + 16, fun _ => .int 0))) q = some (.inr (6, [.null, .int 0, .int 0, .int 0])) := by rw [zup_n hqb]; exact hq
  refine r_goto hC dJ0_init_2_46 (tgt := 53) (by decide) ?_
  refine r_put hC 0 in_J1 tyJ1 tyJ1_ok nmJ1 (ci := 6) rfl (by assumption) hq' (by decide) ⟨rfl, rfl, rfl, rfl⟩ q95 (by decide +kernel : parseFieldDescriptor "[B" = some (.array .byte)) rfl rfl (by simp) rfl dJ0_init_2_53 ?_
  refine r_aload_n hC dJ0_init_2_56 rfl (by first | rfl | exact zisR_rf _) ?_
  refine r_aload_n hC dJ0_init_2_57 rfl (by first | rfl | exact zisR_rf _) ?_
  refine r_callO hC (c_bAps4 hst _ q b2 s sb (k + 16) k 0 fs (fun _ => .int 0) w 0 hA zup_s (by rw [zup_n (Ne.symm hqb)]; exact zup_s) hAb2 (by rw [zup_n hsq, zup_n hsn]; exact hs) (by rw [zup_n hsbq, zup_n hsbn]; exact hsb) hw (by omega) (by omega)) zup_s rfl q313 q1012 q1537 q312 q1013 q1552 q38 q1014 (n := 1) (by decide +kernel) rfl (Nat.le_of_ble_eq_true rfl) (Nat.le_of_ble_eq_true rfl) rfl (Nat.le_of_ble_eq_true rfl) (Nat.le_refl _) (Nat.le_refl _) dJ0_init_2_58 znx (zri ?_)
  rw [zup_c (h := zup h b2 _) hqb, zup_zup, zup_zup, Nat.zero_add]
  refine r_pop hC dJ0_init_2_61 (by first | rfl | exact zcat1 _) ?_
  exact r_vret hC hE rfl dJ0_init_2_62 ⟨rfl, b2, hb2, hAb2, rfl⟩
theorem c_bInits (hl : l.stackTraces = false) (h : zH) (q s sb k : Nat) (fs : Nat → Value) (w : Nat → Nat) (hA : zA g q) (hq : h q = some (.inr (6, [.null, .int 0, .int 0, .int 0]))) (hs : h s = some (.inr (7, [.ref sb, .int 0]))) (hsb : h sb = some (.inl (4, k, fs))) (hw : zBy fs w k) (hk : k < 100) : zM g l yJ1_init_2 (ws_ yJ1_init_2 cJ1_init_2 2 none) 7 193 1 (k + 16) [.ref q, .ref s] h (fun u h' => u = none ∧ ∃ b : Nat, h b = none ∧ zA g b ∧ h' = zup (zup h b (.inl (4, k + 16, va_cpy fs (fun _ => .int 0) 0 0 k))) q (.inr (6, [.ref b, .int 0, .int 0, .int (nI k)]))) zNx := by
  refine zM.of (cc := cJ1_init_2) (nL := 2) (ret := none) (by decide) hl (zcat rfl) (Nat.le_of_ble_eq_true rfl) ?_
  intro Z hg hz hC hE hN
  subst hg
  subst hz
  change zW Z _ _ _ 0 [some _, some _] []
  have hst := hC.2.2.2.2.2.2.2.1
  refine r_aload_n hC dJ1_init_2_0 rfl (by first | rfl | exact zisR_rf _) ?_
  refine r_aload_n hC dJ1_init_2_1 rfl (by first | rfl | exact zisR_rf _) ?_
  refine r_callI hC (c_bInits0 hst h q s sb k fs w hA hq hs hsb hw hk) q1008 q1009 q37 q1010 rfl (n := 1) (by decide +kernel) rfl (Nat.le_of_ble_eq_true rfl) (Nat.le_of_ble_eq_true rfl) rfl (Nat.le_of_ble_eq_true rfl) (cb' := 0) (sb' := 0) (by omega) (by omega) dJ1_init_2_2 znx (fun v9 h9 e9 => ?_)
  obtain ⟨rfl, b2, k1, k2, rfl⟩ := e9
  exact r_vret hC hE rfl dJ1_init_2_5 ⟨rfl, b2, k1, k2, rfl⟩
theorem c_bDel0 (hl : l.stackTraces = false) (h : zH) (q b n k i j : Nat) (f : Nat → Value) (w : Nat → Nat) (m : Int32) (hA : zA g q) (hB : zA g b) (hq : h q = some (.inr (6, [.ref b, .int 0, .int m, .int (nI k)]))) (hb : h b = some (.inl (4, n, f))) (hw : zBy f w n) (hij : i ≤ j) (hj : j ≤ k) (hk : k ≤ n) (hn : n < 1000) :
    zM g l yJ0_delete (ws_ yJ0_delete cJ0_delete 5 (some (.object "java/lang/AbstractStringBuilder"))) 2 82 0 0 [.ref q, .int (nI i), .int (nI j)] h (fun u h' => u = some (.ref q) ∧ ∃ (m' : Int32) (f' : Nat → Value), zBy f' (fun x => if i ≤ x ∧ x < i + (k - j) then w (j + (x - i)) else w x) n ∧ h' = zup (zup h b (.inl (4, n, f'))) q (.inr (6, [.ref b, .int 0, .int m', .int (nI (k - (j - i)))]))) zNx := by
  refine zM.of (cc := cJ0_delete) (nL := 5) (ret := (some (.object "java/lang/AbstractStringBuilder"))) (by decide) hl (zcat rfl) (Nat.le_of_ble_eq_true rfl) ?_
  intro Z hg hz hC hE hN
  subst hg
  subst hz
  change zW Z _ _ _ 0 [some _, some _, some _, none, none] []
  have hst := hC.2.2.2.2.2.2.2.1
  have hqb : q ≠ b := fun e => by rw [e, hb] at hq; cases hq
  refine r_aload_n hC dJ0_delete_0 rfl (by first | rfl | exact zisR_rf _) ?_
  refine r_get hC 3 in_J1 (ci := 6) rfl hq (by decide) ⟨rfl, rfl, rfl⟩ q99 rfl dJ0_delete_1 ?_
  refine r_ist3 hC dJ0_delete_4 ?_
  refine r_iload_n hC dJ0_delete_5 rfl ?_
  refine r_iload_n hC dJ0_delete_6 rfl ?_
  refine r_icmp_leN hC dJ0_delete_7 (tgt := 12) (by decide) (by omega) (by omega) (fun _ => ?_) (fun e => by omega)
  refine r_iload_n hC dJ0_delete_12 rfl ?_
  refine r_iload_n hC dJ0_delete_13 rfl ?_
  refine r_iload_n hC dJ0_delete_14 rfl ?_
  refine r_getsq hC (zk_si hC) q927 dJ0_delete_15 (fun v9 hv9 => ?_)
  refine r_callS hC (c_pcheckFT hst h i j k v9 hv9 hij hj (by omega)) q928 q358 q57 q359 (n := 4) (by decide +kernel) rfl (Nat.le_of_ble_eq_true rfl) (Nat.le_of_ble_eq_true rfl) rfl (Nat.le_of_ble_eq_true rfl) (Nat.le_refl _) (Nat.le_refl _) dJ0_delete_18 znx (zri ?_)
  refine r_pop hC dJ0_delete_21 (by first | rfl | exact zcat1 _) ?_
  refine r_iload_n hC dJ0_delete_22 rfl ?_
  refine r_iload_n hC dJ0_delete_23 rfl ?_
  refine r_isubN hC dJ0_delete_24 hij ?_
  refine r_ist4 hC dJ0_delete_25 ?_
  refine r_iload hC dJ0_delete_27 rfl ?_
  refine r_if_le hC dJ0_delete_29 (tgt := 53) (by decide) (fun e1 => ?_) (fun e1 => ?_)
  · have h0 : j = i := by
      rcases Nat.eq_zero_or_pos (j - i) with e | e
      · omega
      · exact absurd e1 (Int32.not_le.mpr ((nI_ltI (by decide : 0 < 2 ^ 31) (by omega)).mpr e))
    subst h0
    have hh : zup (zup h b (.inl (4, n, f))) q (.inr (6, [.ref b, .int 0, .int m, .int (nI (k - (j - j)))])) = h := by
      rw [Nat.sub_self, Nat.sub_zero, zup_same hb, zup_same hq]
    have hf : zBy f (fun x => if j ≤ x ∧ x < j + (k - j) then w (j + (x - j)) else w x) n := hw.congr (fun x hx => by
      by_cases c : j ≤ x ∧ x < j + (k - j)
      · rw [if_pos c, show j + (x - j) = x by omega]
      · rw [if_neg c])
    refine r_aload_n hC dJ0_delete_53 rfl (by first | rfl | exact zisR_rf _) ?_
    exact r_aret hC hE rfl (by first | exact Or.inl ⟨_, rfl⟩ | exact Or.inr ⟨_, rfl⟩) (by first | rfl | exact zisR_rf _) dJ0_delete_54 ⟨rfl, m, f, hf, hh.symm⟩
  · refine r_aload_n hC dJ0_delete_32 rfl (by first | rfl | exact zisR_rf _) ?_
    refine r_iload_n hC dJ0_delete_33 rfl ?_
    refine r_iload hC dJ0_delete_34 rfl ?_
    refine r_ineg hC dJ0_delete_36 ?_
    refine r_callP hC (c_bShift hst h q b n k j i f w m (- nI (j - i)) hB hq hb hw (by rw [show nI j = nI i + nI (j - i) by rw [nI_add]; congr 1; omega]; grind) hj hk (by omega) (by omega)) hq q908 q910 (by decide) q37 q911 (n := 2) (by decide +kernel) rfl (Nat.le_of_ble_eq_true rfl) (Nat.le_of_ble_eq_true rfl) rfl (Nat.le_of_ble_eq_true rfl) (Nat.le_refl _) (Nat.le_refl _) dJ0_delete_37 znx (zrv ?_)
    have hq1 : (zup h b (.inl (4, n, va_cpy f f j i (k - j)))) q = some (.inr (6, [.ref b, .int 0, .int m, .int (nI k)])) := by rw [zup_n hqb]; exact hq
    refine r_aload_n hC dJ0_delete_40 rfl (by first | rfl | exact zisR_rf _) ?_
    refine r_iload_n hC dJ0_delete_41 rfl ?_
    refine r_iload hC dJ0_delete_42 rfl ?_
    refine r_isubN hC dJ0_delete_44 (by omega) ?_
    refine r_put hC 3 in_J1 tyJ1 tyJ1_ok nmJ1 (ci := 6) rfl (by assumption) hq1 (by decide) ⟨rfl, rfl, rfl, rfl⟩ q99 (by decide +kernel : parseFieldDescriptor "I" = some (.int)) rfl rfl (by simp) rfl dJ0_delete_45 ?_
    refine r_aload_n hC dJ0_delete_48 rfl (by first | rfl | exact zisR_rf _) ?_
    refine r_iconst hC dJ0_delete_49 (v := (nI 1)) (by decide) ?_
    refine r_put hC 2 in_J1 tyJ1 tyJ1_ok nmJ1 (ci := 6) rfl (by assumption) zup_s (by decide) ⟨rfl, rfl, rfl, rfl⟩ q97 (by decide +kernel : parseFieldDescriptor "Z" = some (.boolean)) (by first | rfl | exact nB_nz _ | exact nB_fz _) (by first | rfl | exact nB_nz _ | exact nB_fz _) (by simp) rfl dJ0_delete_50 ?_
    rw [zup_zup]
    refine r_aload_n hC dJ0_delete_53 rfl (by first | rfl | exact zisR_rf _) ?_
    exact r_aret hC hE rfl (by first | exact Or.inl ⟨_, rfl⟩ | exact Or.inr ⟨_, rfl⟩) (by first | rfl | exact zisR_rf _) dJ0_delete_54 ⟨rfl, 1, _, hw.cpy hw (by omega), rfl⟩
theorem c_bDel (hl : l.stackTraces = false) (h : zH) (q b n k i j : Nat) (f : Nat → Value) (w : Nat → Nat) (m : Int32) (hA : zA g q) (hB : zA g b) (hq : h q = some (.inr (6, [.ref b, .int 0, .int m, .int (nI k)]))) (hb : h b = some (.inl (4, n, f))) (hw : zBy f w n) (hij : i ≤ j) (hj : j ≤ k) (hk : k ≤ n) (hn : n < 1000) :
    zM g l yJ1_delete (ws_ yJ1_delete cJ1_delete 3 (some (.object "java/lang/StringBuilder"))) 3 106 0 0 [.ref q, .int (nI i), .int (nI j)] h (fun u h' => u = some (.ref q) ∧ ∃ (m' : Int32) (f' : Nat → Value), zBy f' (fun x => if i ≤ x ∧ x < i + (k - j) then w (j + (x - i)) else w x) n ∧ h' = zup (zup h b (.inl (4, n, f'))) q (.inr (6, [.ref b, .int 0, .int m', .int (nI (k - (j - i)))]))) zNx := by
  refine zM.of (cc := cJ1_delete) (nL := 3) (ret := (some (.object "java/lang/StringBuilder"))) (by decide) hl (zcat rfl) (Nat.le_of_ble_eq_true rfl) ?_
  intro Z hg hz hC hE hN
  subst hg
  subst hz
  change zW Z _ _ _ 0 [some _, some _, some _] []
  have hst := hC.2.2.2.2.2.2.2.1
  refine r_aload_n hC dJ1_delete_0 rfl (by first | rfl | exact zisR_rf _) ?_
  refine r_iload_n hC dJ1_delete_1 rfl ?_
  refine r_iload_n hC dJ1_delete_2 rfl ?_
  refine r_callSU hC (c_bDel0 hst h q b n k i j f w m hA hB hq hb hw hij hj hk hn) hq rfl q1020 q1553 q108 q1021 q37 q1022 (n := 2) (by decide +kernel) rfl (Nat.le_of_ble_eq_true rfl) (Nat.le_of_ble_eq_true rfl) rfl (Nat.le_of_ble_eq_true rfl) (Nat.le_refl _) (Nat.le_refl _) dJ1_delete_3 znx (fun v9 h9 e9 => ?_)
  obtain ⟨rfl, m', f', k1, rfl⟩ := e9
  refine r_pop hC dJ1_delete_6 (by first | rfl | exact zcat1 _) ?_
  refine r_aload_n hC dJ1_delete_7 rfl (by first | rfl | exact zisR_rf _) ?_
  exact r_aret hC hE rfl (by first | exact Or.inl ⟨_, rfl⟩ | exact Or.inr ⟨_, rfl⟩) (by first | rfl | exact zisR_rf _) dJ1_delete_8 ⟨rfl, m', f', k1, rfl⟩
theorem c_bIns0 (hl : l.stackTraces = false) (h : zH) (q b s sb n k c o : Nat) (fs f : Nat → Value) (w v : Nat → Nat) (m : Int32) (hA : zA g q) (hB : zA g b) (hq : h q = some (.inr (6, [.ref b, .int 0, .int m, .int (nI c)]))) (hb : h b = some (.inl (4, n, f))) (hw : zBy f w n) (hs : h s = some (.inr (7, [.ref sb, .int 0]))) (hsb : h sb = some (.inl (4, k, fs))) (hv : zBy fs v k) (hdis : sb ≠ b) (ho : o ≤ c) (hck : c + k ≤ n) (hn : n < 1000) :
    zM g l yJ0_insert (ws_ yJ0_insert cJ0_insert 4 (some (.object "java/lang/AbstractStringBuilder"))) 3 105 0 0 [.ref q, .int (nI o), .ref s] h (fun u h' => u = some (.ref q) ∧ ∃ f' : Nat → Value, zBy f' (fun x => if o ≤ x ∧ x < o + k then v (x - o) else if o + k ≤ x ∧ x < o + k + (c - o) then w (o + (x - (o + k))) else w x) n ∧ h' = zup (zup h b (.inl (4, n, f'))) q (.inr (6, [.ref b, .int 0, .int m, .int (nI (c + k))]))) zNx := by
  refine zM.of (cc := cJ0_insert) (nL := 4) (ret := (some (.object "java/lang/AbstractStringBuilder"))) (by decide) hl (zcat rfl) (Nat.le_of_ble_eq_true rfl) ?_
  intro Z hg hz hC hE hN
  subst hg
  subst hz
  change zW Z _ _ _ 0 [some _, some _, some _, none] []
  have hst := hC.2.2.2.2.2.2.2.1
  have hqb : q ≠ b := fun e => by rw [e, hb] at hq; cases hq
  have hsb2 : s ≠ b := fun e => by rw [e, hb] at hs; cases hs
  have hsq : s ≠ q := fun e => by rw [e, hq] at hs; cases hs
  have hsbq : sb ≠ q := fun e => by rw [e, hq] at hsb; cases hsb
  refine r_iload_n hC dJ0_insert_0 rfl ?_
  refine r_aload_n hC dJ0_insert_1 rfl (by first | rfl | exact zisR_rf _) ?_
  refine r_get hC 3 in_J1 (ci := 6) rfl hq (by decide) ⟨rfl, rfl, rfl⟩ q99 rfl dJ0_insert_2 ?_
  refine r_callS hC (c_scheckOffset hst h o c ho (by omega)) q1030 q828 q39 q829 (n := 2) (by decide +kernel) rfl (Nat.le_of_ble_eq_true rfl) (Nat.le_of_ble_eq_true rfl) rfl (Nat.le_of_ble_eq_true rfl) (Nat.le_refl _) (Nat.le_refl _) dJ0_insert_5 znx (zrv ?_)
  refine r_aload_n hC dJ0_insert_8 rfl (by first | rfl | exact zisR_rf _) ?_
  refine r_ifnonnull hC dJ0_insert_9 (tgt := 15) (by decide) (x := some s) rfl (fun _ _ => ?_) (fun e => nomatch e)
  refine r_aload_n hC dJ0_insert_15 rfl (by first | rfl | exact zisR_rf _) ?_
  refine r_callV hC (c_slen hst h s sb k fs hs hsb (by omega)) hs rfl q369 q370 q371 q39 q372 (n := 0) (by decide +kernel) rfl (Nat.le_of_ble_eq_true rfl) (Nat.le_of_ble_eq_true rfl) rfl (Nat.le_of_ble_eq_true rfl) (Nat.le_refl _) (Nat.le_refl _) dJ0_insert_16 znx (zri ?_)
  refine r_ist3 hC dJ0_insert_19 ?_
  refine r_aload_n hC dJ0_insert_20 rfl (by first | rfl | exact zisR_rf _) ?_
  refine r_aload_n hC dJ0_insert_21 rfl (by first | rfl | exact zisR_rf _) ?_
  refine r_get hC 3 in_J1 (ci := 6) rfl hq (by decide) ⟨rfl, rfl, rfl⟩ q99 rfl dJ0_insert_22 ?_
  refine r_iload_n hC dJ0_insert_25 rfl ?_
  first | refine r_iaddN hC dJ0_insert_26 ?_ | refine r_iadd hC dJ0_insert_26 ?_
  refine r_callP hC (c_bEns hst h q b n (c + k) f m (nI c) hq hb hck (by omega)) hq q318 q320 (by decide) q37 q321 (n := 1) (by decide +kernel) rfl (Nat.le_of_ble_eq_true rfl) (Nat.le_of_ble_eq_true rfl) rfl (Nat.le_of_ble_eq_true rfl) (Nat.le_refl _) (Nat.le_refl _) dJ0_insert_27 znx (zrv ?_)
  refine r_aload_n hC dJ0_insert_30 rfl (by first | rfl | exact zisR_rf _) ?_
  refine r_iload_n hC dJ0_insert_31 rfl ?_
  refine r_iload_n hC dJ0_insert_32 rfl ?_
  refine r_callP hC (c_bShift hst h q b n c o (o + k) f w m (nI k) hB hq hb hw (nI_add o k) ho (by omega) (by omega) (by omega)) hq q908 q910 (by decide) q37 q911 (n := 2) (by decide +kernel) rfl (Nat.le_of_ble_eq_true rfl) (Nat.le_of_ble_eq_true rfl) rfl (Nat.le_of_ble_eq_true rfl) (Nat.le_refl _) (Nat.le_refl _) dJ0_insert_33 znx (zrv ?_)
  have hq1 : (zup h b (.inl (4, n, va_cpy f f o (o + k) (c - o)))) q = some (.inr (6, [.ref b, .int 0, .int m, .int (nI c)])) := by rw [zup_n hqb]; exact hq
  refine r_aload_n hC dJ0_insert_36 rfl (by first | rfl | exact zisR_rf _) ?_
  refine r_dup hC dJ0_insert_37 (by first | rfl | exact zcat1 _) ?_
  refine r_get hC 3 in_J1 (ci := 6) rfl hq1 (by decide) ⟨rfl, rfl, rfl⟩ q99 rfl dJ0_insert_38 ?_
  refine r_iload_n hC dJ0_insert_41 rfl ?_
  first | refine r_iaddN hC dJ0_insert_42 ?_ | refine r_iadd hC dJ0_insert_42 ?_
  refine r_put hC 3 in_J1 tyJ1 tyJ1_ok nmJ1 (ci := 6) rfl (by assumption) hq1 (by decide) ⟨rfl, rfl, rfl, rfl⟩ q99 (by decide +kernel : parseFieldDescriptor "I" = some (.int)) rfl rfl (by simp) rfl dJ0_insert_43 ?_
  refine r_aload_n hC dJ0_insert_46 rfl (by first | rfl | exact zisR_rf _) ?_
  refine r_iload_n hC dJ0_insert_47 rfl ?_
  refine r_aload_n hC dJ0_insert_48 rfl (by first | rfl | exact zisR_rf _) ?_
  refine r_callP hC (c_bPut hst _ q b s sb n k o fs (va_cpy f f o (o + k) (c - o)) v m (nI (c + k)) zup_s (by rw [zup_n (Ne.symm hqb)]; exact zup_s) hB (by rw [zup_n hsq, zup_n hsb2]; exact hs) (by rw [zup_n hsbq, zup_n hdis]; exact hsb) hv (by omega) hn) zup_s q378 q380 (by decide) q37 q381 (n := 2) (by decide +kernel) rfl (Nat.le_of_ble_eq_true rfl) (Nat.le_of_ble_eq_true rfl) rfl (Nat.le_of_ble_eq_true rfl) (Nat.le_refl _) (Nat.le_refl _) dJ0_insert_49 znx (zrv ?_)
  rw [zup_c (h := zup h b _) hqb, zup_zup]
  refine r_aload_n hC dJ0_insert_52 rfl (by first | rfl | exact zisR_rf _) ?_
  exact r_aret hC hE rfl (by first | exact Or.inl ⟨_, rfl⟩ | exact Or.inr ⟨_, rfl⟩) (by first | rfl | exact zisR_rf _) dJ0_insert_53 ⟨rfl, _, (hv.cpy (hw.cpy hw (by omega)) (by omega)).congr (fun x _ => by simp only [Nat.zero_add]), rfl⟩
end JD4

