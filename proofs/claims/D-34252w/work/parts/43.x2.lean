/-! THE COMPONENT 2: temporary lists, paths, the accounts of a file -/
set_option maxRecDepth 100000
/-- an object that may go into a list -/
def zObj (h : zH) (x : Nat) : Prop := ∃ (ci : Nat) (fs : List Value) (r : vw_C), h x = some (.inr (ci, fs)) ∧ zcl[ci]? = some r ∧ (r.1, "java/lang/Object") ∈ zCa
theorem zObj.el {h h' : zH} {x : Nat} (o : zObj h x) (l : zLe h h') : zEl h' (.ref x) := by
  obtain ⟨ci, fs, r, h1, h2, h3⟩ := o
  exact Or.inr ⟨x, ci, fs, r, rfl, l _ _ h1, h2, h3⟩
theorem zLe.no {h h' : zH} (l : zLe h h') {a : Nat} (n : h' a = none) : h a = none := by
  cases hx : h a with
  | none => rfl
  | some e => rw [l _ _ hx] at n; cases n
/-- a list made since h, of capacity c, that holds xs -/
def zTl (g : zG) (h h' : zH) (b : Nat) (xs : List Nat) (c : Nat) : Prop := zLe h h' ∧ h b = none ∧ zA g b ∧ ∃ (mc : Int32) (e : Nat) (F : Nat → Value), h' b = some (.inr (8, [.int mc, .ref e, .int (nI xs.length)])) ∧ h' e = some (.inl (5, c, F)) ∧ xs.length ≤ c ∧ (zA g e ∨ c = 0) ∧ (c = 0 → e = g.2.2.2.2.2.1) ∧ (c ≠ 0 → h e = none) ∧ (∀ (j x : Nat), xs[j]? = some x → F j = .ref x) ∧ ∀ x ∈ xs, zObj h x
/-- what a list's growth leaves alone -/
def zTf (h' h'' : zH) : Prop := ∀ (a : Nat) (e : zE), h' a = some e → (∀ fs, e ≠ .inr (8, fs)) → (∀ c F, e ≠ .inl (5, c, F)) → h'' a = some e
section X2
variable {g : zG} {l : Launch} {A : Nat → Nat} {k : kS} {h : zH}
theorem c_addT (hl : l.stackTraces = false) {h' : zH} {b : Nat} {xs : List Nat} {c : Nat} (ht : zTl g h h' b xs c) (y : Nat) (hy : zObj h y) (hc : c < 600) : zM g l yJ6_add (ws_ yJ6_add cJ6_add 2 (some .boolean)) 6 170 (if xs.length = c then 1 else 0) (if xs.length = c then 2 * c + 10 else 0) [.ref b, .ref y] h' (fun u h'' => u = some (.int 1) ∧ zTf h' h'' ∧ zTl g h h'' b (xs ++ [y]) (if xs.length = c then zgrow c else c)) zNx := by
  obtain ⟨t1, t2, t3, mc, e, F, t4, t5, t6, t7, t8, t9, t10, t11⟩ := ht
  obtain ⟨ci, fs, r, y1, y2, y3⟩ := id hy
  have hel : ∀ j, j < xs.length → zEl h' (F j) := fun j hj => by
    have hx := List.getElem?_eq_getElem hj
    rw [t10 j _ hx]
    exact (t11 _ (List.mem_of_getElem? hx)).el t1
  refine zM.le (c_add hl h' b e xs.length c y ci mc F fs r t3 t4 t5 t7 t8 t6 hc hel (t1 _ _ y1) y2 y3) (fun u h'' q => ?_) (fun _ _ q => q)
  obtain ⟨rfl, e2, c2, f2, rfl, k1, k2, k3, k4, k5, k6⟩ := q
  have hbe : b ≠ e := fun q => by rw [q, t5] at t4; cases t4
  have he2 : h e2 = none := by
    rcases k1 with ⟨rfl, q, -⟩ | ⟨q, -⟩
    · exact t9 (by omega)
    · exact t1.no q
  have hc2 : c2 = if xs.length = c then zgrow c else c := by
    rcases k1 with ⟨-, q, q2⟩ | ⟨-, q, q2⟩
    · rw [if_neg (by omega), q2]
    · rw [if_pos q, q2]
  have hc0 : c2 ≠ 0 := by omega
  refine ⟨rfl, fun a e' q n1 n2 => ?_, (t1.put t2).put he2, t2, t3, mc + 1, e2, f2, ?_, ?_, ?_, Or.inl k2, fun q => absurd (hc2.trans q) hc0, fun _ => he2, fun j x hj => ?_, fun x hx => ?_⟩
  · have a1 : a ≠ b := fun z => by rw [z, t4] at q; cases q; exact n1 _ rfl
    have a2 : a ≠ e2 := fun z => by
      rcases k1 with ⟨rfl, -⟩ | ⟨q2, -⟩
      · rw [z, t5] at q; cases q; exact n2 _ _ rfl
      · rw [z, q2] at q; cases q
    rw [zup_n a2, zup_n a1]; exact q
  · rw [zup_n (Ne.symm k3), zup_s, List.length_append]; rfl
  · rw [zup_s, hc2]
  · rw [List.length_append, ← hc2]; exact k4
  · by_cases hj2 : j < xs.length
    · rw [List.getElem?_append_left hj2] at hj
      rw [k5 j hj2]; exact t10 j x hj
    · rw [List.getElem?_append_right (by omega)] at hj
      have hj3 : j - xs.length = 0 := by
        have := (List.getElem?_eq_some_iff.mp hj).1
        simp at this; omega
      rw [hj3] at hj
      have hj4 : j = xs.length := by omega
      rw [hj4, k6]
      simp at hj; rw [hj]
  · rcases List.mem_append.mp hx with q | q
    · exact t11 x q
    · rw [List.mem_singleton.mp q]; exact hy
theorem c_moved (hl : l.stackTraces = false) (hK : kIs g A k h) (p : Nat) (hp : p < kZ k 0) (t n2 : Nat) (w2 : Nat → Nat) (ht : zStr h t n2 w2) (hn2 : n2 ≤ 8) (c : Nat) (hc : c ≤ kT k 5 p) : zM g l yX3_moved (ws_ yX3_moved cX3_moved 4 (some (.object "java/lang/String"))) 8 214 4 60 [.ref (A (29 + p)), .ref t, .int (nI c)] h (fun u h' => ∃ q' : Nat, u = some (.ref q') ∧ zLe h h' ∧ zStr h' q' (n2 + (kT k 5 p - c)) (fun x => if x < n2 then w2 x else kL k p (c + (x - n2)))) zNx := by
  refine zM.of (cc := cX3_moved) (nL := 4) (ret := (some (.object "java/lang/String"))) (by decide) hl (zcat rfl) (Nat.le_of_ble_eq_true rfl) ?_
  intro Z hg hz hC hE hN
  subst hg
  subst hz
  change zW Z _ _ _ 0 [some _, some _, some _, none] []
  have hst := hC.2.2.2.2.2.2.2.1
  have hn1 : kT k 5 p ≤ 8 := hK.2.2.2.2.2.2.2.2.2 p hp
  obtain ⟨s1, ⟨fs, s2, s3⟩, -⟩ := hK.2.2.1.2.2.2.2.2.2.2.2.1 p hp
  obtain ⟨tb, tf, t1, t2, t3⟩ := id ht
  generalize hgn : kT k 5 p = n1 at hn1 hc s2 s3 hE
  generalize hgw : kL k p = w1 at s3 hE
  refine r_new hC in_J1 tyJ1 tyJ1_ok (ci := 6) (fs := [.null, .int 0, .int 0, .int 0]) rfl q1004 q78 q38 (by decide) (cb' := 3) (sb' := 50) (by omega) (by omega) dX3_moved_0 (fun q hq hAq => ?_)
  have hpr : zup h q (.inr (6, [.null, .int 0, .int 0, .int 0])) (A (29 + p)) = some (.inr (2, kAf k (9 + p) ++ [.int (nI p), .ref (A (200 + p))])) := zLe.new hq _ _ (k_prj hK hp)
  refine r_dup hC dX3_moved_3 (by first | rfl | exact zcat1 _) ?_
  refine r_aload_n hC dX3_moved_4 rfl (by first | rfl | exact zisR_rf _) ?_
  refine r_get hC 8 in_X3 (ci := 2) rfl hpr (by decide) ⟨rfl, rfl, rfl⟩ q180 rfl dX3_moved_5 ?_
  refine r_callI hC (c_bInits hst _ q (A (200 + p)) (A (230 + p)) n1 fs w1 hAq zup_s (zLe.new hq _ _ s1) (zLe.new hq _ _ s2) s3 (by omega)) q1005 q1006 q38 q1007 rfl (n := 1) (by decide +kernel) rfl (Nat.le_of_ble_eq_true rfl) (Nat.le_of_ble_eq_true rfl) rfl (Nat.le_of_ble_eq_true rfl) (cb' := 2) (sb' := 20) (by omega) (by omega) dX3_moved_8 znx (fun v9 h9 e9 => ?_)
  obtain ⟨rfl, b, b1, b2, rfl⟩ := e9
  have hbq : b ≠ q := fun z => by rw [z, zup_s] at b1; cases b1
  have hb0 : h b = none := by rw [zup_n hbq] at b1; exact b1
  rw [zup_c (h := zup h q _) hbq, zup_zup]
  have hw0 := s3.cpy (zBy.z (n := n1 + 16)) (sp := 0) (dp := 0) (k := n1) (by omega)
  refine r_ast3 hC dX3_moved_11 (by first | rfl | exact zisR_rf _) ?_
  refine r_aload_n hC dX3_moved_12 rfl (by first | rfl | exact zisR_rf _) ?_
  refine r_iconst hC dX3_moved_13 (v := (nI 0)) (by decide) ?_
  refine r_iload_n hC dX3_moved_14 rfl ?_
  refine r_callV hC (c_bDel hst _ q b (n1 + 16) n1 0 c _ _ 0 hAq b2 (by rw [zup_n (Ne.symm hbq), zup_s]) zup_s hw0 (by omega) hc (by omega) (by omega)) (by rw [zup_n (Ne.symm hbq), zup_s]) rfl q1016 q1017 q1018 q38 q1019 (n := 2) (by decide +kernel) rfl (Nat.le_of_ble_eq_true rfl) (Nat.le_of_ble_eq_true rfl) rfl (Nat.le_of_ble_eq_true rfl) (cb' := 2) (sb' := 20) (by omega) (by omega) dX3_moved_15 znx (fun v9 h9 e9 => ?_)
  obtain ⟨rfl, m', f', w3, rfl⟩ := e9
  rw [zup_zup, zup_c (h := zup h q _) hbq, zup_zup]
  refine r_pop hC dX3_moved_18 (by first | rfl | exact zcat1 _) ?_
  refine r_aload_n hC dX3_moved_19 rfl (by first | rfl | exact zisR_rf _) ?_
  refine r_iconst hC dX3_moved_20 (v := (nI 0)) (by decide) ?_
  refine r_aload_n hC dX3_moved_21 rfl (by first | rfl | exact zisR_rf _) ?_
  have htq : t ≠ q := fun z => by rw [z, hq] at t1; cases t1
  have htb : t ≠ b := fun z => by rw [z, hb0] at t1; cases t1
  have htbq : tb ≠ q := fun z => by rw [z, hq] at t2; cases t2
  have htbb : tb ≠ b := fun z => by rw [z, hb0] at t2; cases t2
  refine r_callV hC (c_bIns hst _ q b t tb (n1 + 16) n2 (n1 - (c - 0)) 0 tf f' _ w2 m' hAq b2 (by rw [zup_n (Ne.symm hbq), zup_s]) zup_s w3 (by rw [zup_n htb, zup_n htq]; exact t1) (by rw [zup_n htbb, zup_n htbq]; exact t2) t3 htbb (by omega) (by omega) (by omega)) (by rw [zup_n (Ne.symm hbq), zup_s]) rfl q1023 q1024 q1025 q38 q1026 (n := 2) (by decide +kernel) rfl (Nat.le_of_ble_eq_true rfl) (Nat.le_of_ble_eq_true rfl) rfl (Nat.le_of_ble_eq_true rfl) (cb' := 2) (sb' := 20) (by omega) (by omega) dX3_moved_22 znx (fun v9 h9 e9 => ?_)
  obtain ⟨rfl, f4, w4, rfl⟩ := e9
  rw [zup_zup, zup_c (h := zup h q _) hbq, zup_zup]
  refine r_pop hC dX3_moved_25 (by first | rfl | exact zcat1 _) ?_
  refine r_aload_n hC dX3_moved_26 rfl (by first | rfl | exact zisR_rf _) ?_
  refine r_callV hC (c_bStr hst _ q b (n1 + 16) (n1 - (c - 0) + n2) f4 _ m' (by rw [zup_n (Ne.symm hbq), zup_s]) zup_s w4 (by omega) (by omega)) (by rw [zup_n (Ne.symm hbq), zup_s]) rfl q1032 q438 q439 q38 q440 (n := 0) (by decide +kernel) rfl (Nat.le_of_ble_eq_true rfl) (Nat.le_of_ble_eq_true rfl) rfl (Nat.le_of_ble_eq_true rfl) (cb' := 0) (sb' := 0) (by omega) (by omega) dX3_moved_27 znx (fun v9 h9 e9 => ?_)
  obtain ⟨q', rfl, l1, l2⟩ := e9
  have hle : zLe h h9 := ((zLe.new hq).put hb0).tr l1
  have hstr : zStr h9 q' (n2 + (n1 - c)) (fun x => if x < n2 then w2 x else w1 (c + (x - n2))) := by
    rw [show n2 + (n1 - c) = n1 - (c - 0) + n2 by omega]
    refine l2.congr (fun x hx => ?_)
    by_cases cx : x < n2
    · rw [if_pos ⟨by omega, by omega⟩, if_pos cx, Nat.sub_zero]
    · rw [if_neg (by omega), if_pos ⟨by omega, by omega⟩, if_neg cx, if_pos ⟨by omega, by omega⟩, if_pos ⟨by omega, by omega⟩]
      congr 1
      omega
  exact r_aret hC hE rfl (by first | exact Or.inl ⟨_, rfl⟩ | exact Or.inr ⟨_, rfl⟩) (by first | rfl | exact zisR_rf _) dX3_moved_30 ⟨q', rfl, hle, hstr⟩
theorem c_withB (hl : l.stackTraces = false) (hK : kIs g A k h) (q b n c : Nat) (f : Nat → Value) (w : Nat → Nat) (m : Int32) (hq : h q = some (.inr (6, [.ref b, .int 0, .int m, .int (nI c)]))) (hb : h b = some (.inl (4, n, f))) (hw : zBy f w n) (hc : c ≤ n) (hn : n < 1000) : zM g l yX1_withPath (ws_ yX1_withPath cX1_withPath 4 (some (.object "AllotmentLedger$Project"))) 10 410 0 0 [.ref (A 0), .ref q] h (zRi (kRf A (kFd k c w)) h) zNx := by
  refine zM.of (cc := cX1_withPath) (nL := 4) (ret := (some (.object "AllotmentLedger$Project"))) (by decide) hl (zcat rfl) (Nat.le_of_ble_eq_true rfl) ?_
  intro Z hg hz hC hE hN
  subst hg
  subst hz
  change zW Z _ _ _ 0 [some _, some _, none, none] []
  have hst := hC.2.2.2.2.2.2.2.1
  have hB := hK.2.2.2
  obtain ⟨mc, cc0, F, t1, t2, t3, t4, t5, -⟩ := hK.2.2.1.2.2.2.2.2.1
  have lp : ∀ i, i ≤ kZ k 0 → zW Z h 0 0 4 [some (.ref (A 0)), some (.ref q), some (kRf A (zLast (fun p => zEqW (kT k 5 p) (kL k p) c w) i)), some (.int (nI i))] [] := by
    refine zloop (kZ k 0) (fun i ih hi => ?_)
    refine r_iload_n hC dX1_withPath_4 rfl ?_
    refine r_aload_n hC dX1_withPath_5 rfl (by first | rfl | exact zisR_rf _) ?_
    refine r_get hC 3 in_X1 (ci := 0) rfl (k_led hK) (by decide) ⟨rfl, rfl, rfl⟩ q259 rfl dX1_withPath_6 ?_
    refine r_callV hC (c_lsize hst h (A 5) (A 8) (kZ k 0) mc t1) t1 rfl q622 q623 q624 q43 q625 (n := 0) (by decide +kernel) rfl (Nat.le_of_ble_eq_true rfl) (Nat.le_of_ble_eq_true rfl) rfl (Nat.le_of_ble_eq_true rfl) (Nat.le_refl _) (Nat.le_refl _) dX1_withPath_9 znx (zri ?_)
    refine r_icmp_geN hC dX1_withPath_12 (tgt := 58) (by decide) (by omega) (by omega) (fun e1 => ?_) (fun e1 => ?_)
    · obtain rfl : i = kZ k 0 := by omega
      refine r_aload_n hC dX1_withPath_58 rfl (by first | rfl | exact zisR_rf _) ?_
      exact r_aret hC hE rfl (by first | exact Or.inl ⟨_, rfl⟩ | exact Or.inr ⟨_, rfl⟩) (by first | rfl | exact zisR_rf _) dX1_withPath_59 ⟨rfl, rfl⟩
    · refine r_aload_n hC dX1_withPath_15 rfl (by first | rfl | exact zisR_rf _) ?_
      refine r_get hC 3 in_X1 (ci := 0) rfl (k_led hK) (by decide) ⟨rfl, rfl, rfl⟩ q259 rfl dX1_withPath_16 ?_
      refine r_iload_n hC dX1_withPath_19 rfl ?_
      refine r_callV hC (c_lget hst h (A 5) (A 8) (kZ k 0) cc0 i F mc t1 t2 e1 t3 (by omega) (by rw [t5 i e1]; rfl)) t1 rfl q626 q627 q628 q43 q629 (n := 1) (by decide +kernel) rfl (Nat.le_of_ble_eq_true rfl) (Nat.le_of_ble_eq_true rfl) rfl (Nat.le_of_ble_eq_true rfl) (Nat.le_refl _) (Nat.le_refl _) dX1_withPath_20 znx (zri ?_)
      rw [t5 i e1]
      refine r_castY hC (k_prj hK e1) rfl (nm := "AllotmentLedger$Project") q171 (Or.inr rfl) dX1_withPath_23 ?_
      refine r_getN hC 8 in_X3 (ci := 2) (ref := "AllotmentLedger$Project") (nm := "path") (ds := "Ljava/lang/String;") (host := "AllotmentLedger") rfl (k_prj hK e1) (by decide) ⟨rfl, rfl, rfl⟩ (by decide +kernel) rfl dX1_withPath_26 ?_
      refine r_aload_n hC dX1_withPath_29 rfl (by first | rfl | exact zisR_rf _) ?_
      obtain ⟨b9, f9, s1, s2, s3⟩ := id (k_str hK e1)
      have hpl := hB.2.2.2.2.2.2 i e1
      refine r_callVX hC (c_ceqB hst h hK.2.2.1.1 (A (200 + i)) q b (kT k 5 i) n c f (kL k i) w m (k_str hK e1) hq hb hw hc hn hpl) s1 rfl rfl q640 q641 q642 q39 q643 (n := 1) (by decide +kernel) rfl (Nat.le_of_ble_eq_true rfl) (Nat.le_of_ble_eq_true rfl) rfl (Nat.le_of_ble_eq_true rfl) (Nat.le_refl _) (Nat.le_refl _) dX1_withPath_30 znx (zri ?_)
      refine r_if_eqB hC dX1_withPath_33 (tgt := 50) (by decide) (fun e2 => ?_) (fun e2 => ?_)
      · refine r_aload_n hC dX1_withPath_50 rfl (by first | rfl | exact zisR_rf _) ?_
        refine r_ast2 hC dX1_withPath_51 (by first | rfl | exact zisR_rf _) ?_
        refine r_inc3 hC dX1_withPath_52 (by first | exact (nI_1 _) | rfl) ?_
        refine r_goto hC dX1_withPath_55 (tgt := 4) (by decide) ?_
        have := ih e1 (by omega)
        simp only [zLast, e2, Bool.false_eq_true, if_false] at this
        exact this
      · skip
        refine r_aload_n hC dX1_withPath_36 rfl (by first | rfl | exact zisR_rf _) ?_
        refine r_get hC 3 in_X1 (ci := 0) rfl (k_led hK) (by decide) ⟨rfl, rfl, rfl⟩ q259 rfl dX1_withPath_37 ?_
        refine r_iload_n hC dX1_withPath_40 rfl ?_
        refine r_callV hC (c_lget hst h (A 5) (A 8) (kZ k 0) cc0 i F mc t1 t2 e1 t3 (by omega) (by rw [t5 i e1]; rfl)) t1 rfl q626 q627 q628 q43 q629 (n := 1) (by decide +kernel) rfl (Nat.le_of_ble_eq_true rfl) (Nat.le_of_ble_eq_true rfl) rfl (Nat.le_of_ble_eq_true rfl) (Nat.le_refl _) (Nat.le_refl _) dX1_withPath_41 znx (zri ?_)
        rw [t5 i e1]
        refine r_castY hC (k_prj hK e1) rfl (nm := "AllotmentLedger$Project") q171 (Or.inr rfl) dX1_withPath_44 ?_
        refine r_goto hC dX1_withPath_47 (tgt := 51) (by decide) ?_
        refine r_ast2 hC dX1_withPath_51 (by first | rfl | exact zisR_rf _) ?_
        refine r_inc3 hC dX1_withPath_52 (by first | exact (nI_1 _) | rfl) ?_
        refine r_goto hC dX1_withPath_55 (tgt := 4) (by decide) ?_
        have := ih e1 (by omega)
        simp only [zLast, e2, if_true] at this
        exact this
  refine r_null hC dX1_withPath_0 ?_
  refine r_ast2 hC dX1_withPath_1 (by first | rfl | exact zisR_rf _) ?_
  refine r_iconst hC dX1_withPath_2 (v := (nI 0)) (by decide) ?_
  refine r_ist3 hC dX1_withPath_3 ?_
  exact lp 0 (by omega)
theorem c_withS (hl : l.stackTraces = false) (hK : kIs g A k h) (q c : Nat) (w : Nat → Nat) (hq : zStr h q c w) (hc : c < 1000) : zM g l yX1_withPath (ws_ yX1_withPath cX1_withPath 4 (some (.object "AllotmentLedger$Project"))) 10 410 0 0 [.ref (A 0), .ref q] h (zRi (kRf A (kFd k c w)) h) zNx := by
  refine zM.of (cc := cX1_withPath) (nL := 4) (ret := (some (.object "AllotmentLedger$Project"))) (by decide) hl (zcat rfl) (Nat.le_of_ble_eq_true rfl) ?_
  intro Z hg hz hC hE hN
  subst hg
  subst hz
  change zW Z _ _ _ 0 [some _, some _, none, none] []
  have hst := hC.2.2.2.2.2.2.2.1
  have hB := hK.2.2.2
  obtain ⟨mc, cc0, F, t1, t2, t3, t4, t5, -⟩ := hK.2.2.1.2.2.2.2.2.1
  have lp : ∀ i, i ≤ kZ k 0 → zW Z h 0 0 4 [some (.ref (A 0)), some (.ref q), some (kRf A (zLast (fun p => zEqW (kT k 5 p) (kL k p) c w) i)), some (.int (nI i))] [] := by
    refine zloop (kZ k 0) (fun i ih hi => ?_)
    refine r_iload_n hC dX1_withPath_4 rfl ?_
    refine r_aload_n hC dX1_withPath_5 rfl (by first | rfl | exact zisR_rf _) ?_
    refine r_get hC 3 in_X1 (ci := 0) rfl (k_led hK) (by decide) ⟨rfl, rfl, rfl⟩ q259 rfl dX1_withPath_6 ?_
    refine r_callV hC (c_lsize hst h (A 5) (A 8) (kZ k 0) mc t1) t1 rfl q622 q623 q624 q43 q625 (n := 0) (by decide +kernel) rfl (Nat.le_of_ble_eq_true rfl) (Nat.le_of_ble_eq_true rfl) rfl (Nat.le_of_ble_eq_true rfl) (Nat.le_refl _) (Nat.le_refl _) dX1_withPath_9 znx (zri ?_)
    refine r_icmp_geN hC dX1_withPath_12 (tgt := 58) (by decide) (by omega) (by omega) (fun e1 => ?_) (fun e1 => ?_)
    · obtain rfl : i = kZ k 0 := by omega
      refine r_aload_n hC dX1_withPath_58 rfl (by first | rfl | exact zisR_rf _) ?_
      exact r_aret hC hE rfl (by first | exact Or.inl ⟨_, rfl⟩ | exact Or.inr ⟨_, rfl⟩) (by first | rfl | exact zisR_rf _) dX1_withPath_59 ⟨rfl, rfl⟩
    · refine r_aload_n hC dX1_withPath_15 rfl (by first | rfl | exact zisR_rf _) ?_
      refine r_get hC 3 in_X1 (ci := 0) rfl (k_led hK) (by decide) ⟨rfl, rfl, rfl⟩ q259 rfl dX1_withPath_16 ?_
      refine r_iload_n hC dX1_withPath_19 rfl ?_
      refine r_callV hC (c_lget hst h (A 5) (A 8) (kZ k 0) cc0 i F mc t1 t2 e1 t3 (by omega) (by rw [t5 i e1]; rfl)) t1 rfl q626 q627 q628 q43 q629 (n := 1) (by decide +kernel) rfl (Nat.le_of_ble_eq_true rfl) (Nat.le_of_ble_eq_true rfl) rfl (Nat.le_of_ble_eq_true rfl) (Nat.le_refl _) (Nat.le_refl _) dX1_withPath_20 znx (zri ?_)
      rw [t5 i e1]
      refine r_castY hC (k_prj hK e1) rfl (nm := "AllotmentLedger$Project") q171 (Or.inr rfl) dX1_withPath_23 ?_
      refine r_getN hC 8 in_X3 (ci := 2) (ref := "AllotmentLedger$Project") (nm := "path") (ds := "Ljava/lang/String;") (host := "AllotmentLedger") rfl (k_prj hK e1) (by decide) ⟨rfl, rfl, rfl⟩ (by decide +kernel) rfl dX1_withPath_26 ?_
      refine r_aload_n hC dX1_withPath_29 rfl (by first | rfl | exact zisR_rf _) ?_
      obtain ⟨b9, f9, s1, s2, s3⟩ := id (k_str hK e1)
      have hpl := hB.2.2.2.2.2.2 i e1
      refine r_callVX hC (c_ceqS hst h hK.2.2.1.1 (A (200 + i)) q (kT k 5 i) c (kL k i) w (k_str hK e1) hq (by omega) hc) s1 rfl rfl q640 q641 q642 q39 q643 (n := 1) (by decide +kernel) rfl (Nat.le_of_ble_eq_true rfl) (Nat.le_of_ble_eq_true rfl) rfl (Nat.le_of_ble_eq_true rfl) (Nat.le_refl _) (Nat.le_refl _) dX1_withPath_30 znx (zri ?_)
      refine r_if_eqB hC dX1_withPath_33 (tgt := 50) (by decide) (fun e2 => ?_) (fun e2 => ?_)
      · refine r_aload_n hC dX1_withPath_50 rfl (by first | rfl | exact zisR_rf _) ?_
        refine r_ast2 hC dX1_withPath_51 (by first | rfl | exact zisR_rf _) ?_
        refine r_inc3 hC dX1_withPath_52 (by first | exact (nI_1 _) | rfl) ?_
        refine r_goto hC dX1_withPath_55 (tgt := 4) (by decide) ?_
        have := ih e1 (by omega)
        simp only [zLast, e2, Bool.false_eq_true, if_false] at this
        exact this
      · skip
        refine r_aload_n hC dX1_withPath_36 rfl (by first | rfl | exact zisR_rf _) ?_
        refine r_get hC 3 in_X1 (ci := 0) rfl (k_led hK) (by decide) ⟨rfl, rfl, rfl⟩ q259 rfl dX1_withPath_37 ?_
        refine r_iload_n hC dX1_withPath_40 rfl ?_
        refine r_callV hC (c_lget hst h (A 5) (A 8) (kZ k 0) cc0 i F mc t1 t2 e1 t3 (by omega) (by rw [t5 i e1]; rfl)) t1 rfl q626 q627 q628 q43 q629 (n := 1) (by decide +kernel) rfl (Nat.le_of_ble_eq_true rfl) (Nat.le_of_ble_eq_true rfl) rfl (Nat.le_of_ble_eq_true rfl) (Nat.le_refl _) (Nat.le_refl _) dX1_withPath_41 znx (zri ?_)
        rw [t5 i e1]
        refine r_castY hC (k_prj hK e1) rfl (nm := "AllotmentLedger$Project") q171 (Or.inr rfl) dX1_withPath_44 ?_
        refine r_goto hC dX1_withPath_47 (tgt := 51) (by decide) ?_
        refine r_ast2 hC dX1_withPath_51 (by first | rfl | exact zisR_rf _) ?_
        refine r_inc3 hC dX1_withPath_52 (by first | exact (nI_1 _) | rfl) ?_
        refine r_goto hC dX1_withPath_55 (tgt := 4) (by decide) ?_
        have := ih e1 (by omega)
        simp only [zLast, e2, if_true] at this
        exact this
  refine r_null hC dX1_withPath_0 ?_
  refine r_ast2 hC dX1_withPath_1 (by first | rfl | exact zisR_rf _) ?_
  refine r_iconst hC dX1_withPath_2 (v := (nI 0)) (by decide) ?_
  refine r_ist3 hC dX1_withPath_3 ?_
  exact lp 0 (by omega)
end X2

