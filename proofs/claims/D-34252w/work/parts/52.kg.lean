/-! A LIST OF THE COMPONENT GROWS BY ONE NAMED OBJECT -/
set_option maxRecDepth 100000
def kNm (L : Nat) : Nat := if L = 0 then 29 else if L = 1 then 60 else 100
/-- what the law's own world and the reference need: cells of class 5, arrays of kinds 0 .. 3 -/
def kex (e : zE) : Bool := match e with
  | .inr o => o.1 == 5
  | .inl x => decide (x.1 < 4)
def zFk (h h' : zH) : Prop := ∀ (a : Nat) (e : zE), h a = some e → kex e = true → h' a = some e
theorem zFk.rf {h : zH} : zFk h h := fun _ _ q _ => q
theorem zFk.tr {h h' h'' : zH} (a : zFk h h') (b : zFk h' h'') : zFk h h'' := fun x e q c => b x e (a x e q c) c
theorem zLe.fk {h h' : zH} (l : zLe h h') : zFk h h' := fun a e q _ => l a e q
theorem kex_cl {e : zE} (h : kex e = true) : kcl e = false := by
  unfold kex at h; unfold kcl
  cases e with
  | inl x => rfl
  | inr o =>
    simp only [beq_iff_eq] at h
    simp [h]
theorem kFr.fk {h h' : zH} (f : kFr h h') : zFk h h' := fun a e q c => f a e q (kex_cl c)
theorem kFz.fk {g : zG} {A : Nat → Nat} {k : kS} {h h' : zH} (hK : kIs g A k h) (f : kFz A h h') : zFk h h' := fun a e q c => f a e q
  (fun z => by obtain ⟨m, -, b1⟩ := hK.2.2.1.2.1; rw [z, b1] at q; cases q; exact absurd c (by simp [kex]))
  (fun z => by obtain ⟨f0, b2, -⟩ := hK.2.2.1.2.2.1; rw [z, b2] at q; cases q; exact absurd c (by simp [kex]))
theorem kNm_0 : kNm 0 = 29 := rfl
theorem kNm_1 : kNm 1 = 60 := rfl
theorem kNm_2 : kNm 2 = 100 := rfl
theorem kIs.grow {g : zG} {A A' : Nat → Nat} {k k' : kS} {h h' : zH} (hK : kIs g A k h) (L q e2 c2 : Nat) (f2 : Nat → Value) (mc : Int32) (cell : zE) (hL : L < 3)
    (hh : h' = zup (zup (zup h q cell) (A (5 + L)) (.inr (8, [.int mc, .ref e2, .int (nI (kZ k L + 1))]))) e2 (.inl (5, c2, f2))) (hq : h q = none) (hAq : zA g q) (hcl : kcl cell = true)
    (he2 : (e2 = A (8 + L) ∧ e2 ≠ g.2.2.2.2.2.1) ∨ (zup h q cell) e2 = none) (hAe : zA g e2) (hne : e2 ≠ A (5 + L)) (hc : kZ k L + 1 ≤ c2) (hc3 : c2 < 300) (hf2 : ∀ j, j < kZ k L → f2 j = .ref (A (kNm L + j))) (hfN : f2 (kZ k L) = .ref q)
    (a1 : ∀ n, n < 8 → A' n = A n) (a2 : ∀ n, 8 ≤ n → n < 11 → n ≠ 8 + L → A' n = A n) (a3 : A' (8 + L) = e2) (a4 : A' (kNm L + kZ k L) = q) (a5 : ∀ n, 20 ≤ n → n < 130 → kNb k n = true → A' n = A n)
    (z1 : kZ k' L = kZ k L + 1) (z2 : ∀ i, i < 4 → i ≠ L → kZ k' i = kZ k i) (t6 : kT k' 6 = kT k 6) (hE : ∀ n, kNb k n = true → kE A' k' n = kE A k n) (hEN : kE A' k' (kNm L + kZ k L) = cell) (hB : kB k')
    (hst : ∀ p, p < kZ k' 0 → h (A' (200 + p)) = some (.inr (7, [.ref (A' (230 + p)), .int 0])) ∧ (∃ f, h (A' (230 + p)) = some (.inl (4, kT k' 5 p, f)) ∧ zBy f (kL k' p) (kT k' 5 p)) ∧ A' (230 + p) ≠ A 2) : kIs g A' k' h' := by
  obtain ⟨K1, K2, ⟨⟨s1, ⟨f5, s2⟩, ⟨f3, s3⟩, s4⟩, ⟨m0, hm0, b1⟩, ⟨f0, b2, b3⟩, ⟨fu, u1, u2⟩, ⟨fg, g1, g2⟩, l1, l2, l3, st, w12, d567, d8, d9, d10⟩, hB0⟩ := id hK
  obtain ⟨⟨c0, c21⟩, c40, c30, -⟩ := hB0
  -- the list's own cell
  have hlist : ∃ (mc0 : Int32) (cc : Nat) (F : Nat → Value), h (A (5 + L)) = some (.inr (8, [.int mc0, .ref (A (8 + L)), .int (nI (kZ k L))])) ∧ h (A (8 + L)) = some (.inl (5, cc, F)) ∧ zA g (A (5 + L)) := by
    have : L = 0 ∨ L = 1 ∨ L = 2 := by omega
    rcases this with rfl | rfl | rfl
    · obtain ⟨mc0, cc, F, x1, x2, -, -, -, x3, -⟩ := l1; exact ⟨mc0, cc, F, x1, x2, x3⟩
    · obtain ⟨mc0, cc, F, x1, x2, -, -, -, x3, -⟩ := l2; exact ⟨mc0, cc, F, x1, x2, x3⟩
    · obtain ⟨mc0, cc, F, x1, x2, -, -, -, x3, -⟩ := l3; exact ⟨mc0, cc, F, x1, x2, x3⟩
  obtain ⟨mc0, cc0, F0, hb, he, hAb⟩ := hlist
  have hbq : A (5 + L) ≠ q := fun z => by rw [z, hq] at hb; cases hb
  have hqe : q ≠ e2 := fun z => by
    rcases he2 with ⟨w, -⟩ | w
    · rw [← w, ← z, hq] at he; cases he
    · rw [← z, zup_s] at w; cases w
  -- what stays
  have go : ∀ (a : Nat) (e : zE), h a = some e → a ≠ A (5 + L) → (a ≠ A (8 + L) ∨ e2 ≠ A (8 + L)) → h' a = some e := fun a e w n1 n2 => by
    have n3 : a ≠ q := fun z => by rw [z, hq] at w; cases w
    have n4 : a ≠ e2 := fun z => by
      rcases he2 with ⟨w2, -⟩ | w2
      · rcases n2 with n2 | n2
        · exact n2 (z.trans w2)
        · exact n2 w2
      · rw [← z, zup_n n3, w] at w2; cases w2
    rw [hh, zup_n n4, zup_n n1, zup_n n3]; exact w
  have go2 : ∀ (a : Nat) (e : zE), h a = some e → (∀ fs, e ≠ .inr (8, fs)) → (∀ c F, e ≠ .inl (5, c, F)) → h' a = some e := fun a e w n1 n2 => go a e w (fun z => by rw [z, hb] at w; cases w; exact n1 _ rfl) (Or.inl (fun z => by rw [z, he] at w; cases w; exact n2 _ _ rfl))
  have hq' : h' q = some cell := by rw [hh, zup_n hqe, zup_n (Ne.symm hbq)]; exact zup_s
  have hnb : ∀ n, kNb k' n = true → kNb k n = true ∨ n = kNm L + kZ k L := by
    intro n hn
    simp only [kNb, Bool.or_eq_true, beq_iff_eq, decide_eq_true_eq] at hn ⊢
    have : L = 0 ∨ L = 1 ∨ L = 2 := by omega
    rcases this with rfl | rfl | rfl
    · rw [z1, z2 1 (by decide) (by decide), z2 2 (by decide) (by decide)] at hn; rw [kNm_0]; omega
    · rw [z1, z2 0 (by decide) (by decide), z2 2 (by decide) (by decide)] at hn; rw [kNm_1]; omega
    · rw [z1, z2 0 (by decide) (by decide), z2 1 (by decide) (by decide)] at hn; rw [kNm_2]; omega
  have hA : ∀ n, kNb k n = true → A' n = A n := by
    intro n hn
    by_cases c : n = 0
    · rw [c]; exact a1 0 (by decide)
    · have hlt := kNb_lt hK.2.2.2 hn
      refine a5 n ?_ hlt hn
      simp only [kNb, Bool.or_eq_true, beq_iff_eq, decide_eq_true_eq] at hn; omega
  have hkq : ∀ n, kNb k n = true → A n ≠ q := k_no hK (Or.inl hq)
  -- another list
  have li : ∀ M, M < 3 → M ≠ L → ∀ fN fN' : Nat → Nat, (∀ j, j < kZ k M → fN' j = fN j) → kLi g h (A (5 + M)) (A (8 + M)) (kZ k M) fN → kLi g h' (A' (5 + M)) (A' (8 + M)) (kZ k' M) fN' := by
    intro M hM hML fN fN' hf hl
    obtain ⟨mc1, cc1, F1, x1, x2, x3, x4, x5, x6, x7, x8⟩ := hl
    have e1 : A' (5 + M) = A (5 + M) := a1 _ (by omega)
    have e3 : A' (8 + M) = A (8 + M) := a2 _ (by omega) (by omega) (by omega)
    have hbb : A (5 + M) ≠ A (5 + L) := by
      have hL3 : L = 0 ∨ L = 1 ∨ L = 2 := by omega
      have hM3 : M = 0 ∨ M = 1 ∨ M = 2 := by omega
      rcases hL3 with rfl | rfl | rfl <;> rcases hM3 with rfl | rfl | rfl <;> first | exact absurd rfl hML | exact d567.1 | exact d567.2.1 | exact d567.2.2 | exact (Ne.symm d567.1) | exact (Ne.symm d567.2.1) | exact (Ne.symm d567.2.2)
    have hee : A (8 + M) ≠ A (8 + L) ∨ e2 ≠ A (8 + L) := by
      by_cases w : e2 = A (8 + L)
      · left
        have hz : zA g (A (8 + L)) := by rw [← w]; exact hAe
        have hL3 : L = 0 ∨ L = 1 ∨ L = 2 := by omega
        have hM3 : M = 0 ∨ M = 1 ∨ M = 2 := by omega
        rcases hL3 with rfl | rfl | rfl <;> rcases hM3 with rfl | rfl | rfl <;> first | exact absurd rfl hML | exact (Ne.symm (d8 hz).1) | exact (Ne.symm (d8 hz).2) | exact (Ne.symm (d9 hz).1) | exact (Ne.symm (d9 hz).2) | exact (Ne.symm (d10 hz).1) | exact (Ne.symm (d10 hz).2)
      · exact Or.inr w
    rw [e1, e3, z2 M (by omega) hML]
    refine ⟨mc1, cc1, F1, go _ _ x1 hbb (Or.inl (fun z => by rw [z, he] at x1; cases x1)), go _ _ x2 (fun z => by rw [z, hb] at x2; cases x2) hee, x3, x4, fun j hj => by rw [hf j hj]; exact x5 j hj, x6, x7, x8⟩
  -- the list itself
  have lown : ∀ fN' : Nat → Nat, (∀ j, j < kZ k L → fN' j = A (kNm L + j)) → fN' (kZ k L) = q → kLi g h' (A' (5 + L)) (A' (8 + L)) (kZ k' L) fN' := by
    intro fN' hf hfq
    rw [a1 (5 + L) (by omega), a3, z1]
    refine ⟨mc, c2, f2, by rw [hh, zup_n (Ne.symm hne)]; exact zup_s, by rw [hh]; exact zup_s, hc, hc3, fun j hj => ?_, hAb, Or.inl hAe, fun z => by omega⟩
    by_cases c : j < kZ k L
    · rw [hf j c]; exact hf2 j c
    · obtain rfl : j = kZ k L := by omega
      rw [hfq]; exact hfN
  have hfr8 : ∀ M, 8 ≤ M → M < 11 → M ≠ 8 + L → e2 ≠ A M := by
    intro M h1 h2 h3 z
    have hM : M = 8 ∨ M = 9 ∨ M = 10 := by omega
    have hkn : ∃ e, h (A M) = some e := by
      rcases hM with rfl | rfl | rfl
      · obtain ⟨_, cx, Fx, -, x2, -⟩ := l1; exact ⟨_, x2⟩
      · obtain ⟨_, cx, Fx, -, x2, -⟩ := l2; exact ⟨_, x2⟩
      · obtain ⟨_, cx, Fx, -, x2, -⟩ := l3; exact ⟨_, x2⟩
    obtain ⟨e, hkn⟩ := hkn
    rcases he2 with ⟨w, -⟩ | w
    · have hz : zA g (A (8 + L)) := by rw [← w]; exact hAe
      rw [w] at z
      have hL3 : L = 0 ∨ L = 1 ∨ L = 2 := by omega
      rcases hL3 with rfl | rfl | rfl <;> rcases hM with rfl | rfl | rfl <;> first | exact absurd rfl h3 | exact (d8 hz).1 z | exact (d8 hz).2 z | exact (d9 hz).1 z | exact (d9 hz).2 z | exact (d10 hz).1 z | exact (d10 hz).2 z
    · rw [z] at w
      have n3 : A M ≠ q := fun z2 => by rw [z2, hq] at hkn; cases hkn
      rw [zup_n n3, hkn] at w; cases w
  have hL3 : L = 0 ∨ L = 1 ∨ L = 2 := by omega
  have hea : h' g.2.2.2.2.2.1 = some (.inl (5, 0, f3)) := by
    refine go _ _ s3 (fun z => by rw [z, hb] at s3; cases s3) ?_
    by_cases w : e2 = A (8 + L)
    · rcases he2 with ⟨-, w2⟩ | w2
      · exact Or.inl (fun z => w2 (w.trans z.symm))
      · rw [w] at w2
        have n3 : A (8 + L) ≠ q := fun z2 => by rw [z2, hq] at he; cases he
        rw [zup_n n3, he] at w2; cases w2
    · exact Or.inr w
  have ha20 : ∀ j, j < 9 → A' (20 + j) = A (20 + j) := fun j hj => hA _ (kna (by omega))
  have e8 : ∀ M, 8 ≤ M → M < 11 → M ≠ 8 + L → A' M = A M := fun M x y z => a2 M x y z
  refine ⟨fun n hn => ?_, fun n n' h1 h2 e => ?_, ⟨⟨go2 _ _ s1 (fun _ z => by cases z) (fun _ _ z => by cases z), ⟨f5, go2 _ _ s2 (fun _ z => by cases z) (fun _ _ z => by cases z)⟩, ⟨f3, hea⟩, go2 _ _ s4 (fun _ z => by cases z) (fun _ _ z => by cases z)⟩, ⟨m0, hm0, ?_⟩, ⟨f0, ?_, ?_⟩, ⟨fu, ?_, ?_⟩, ⟨fg, ?_, ?_⟩, ?_, ?_, ?_, fun p hp => ?_, ?_, ?_, ?_, ?_, ?_⟩, hB⟩
  · rcases hnb n hn with w | rfl
    · rw [hA n w, hE n w]
      exact ⟨go _ _ (K1 n w).1 (k_no hK (Or.inr ⟨_, hb, rfl⟩) n w) (Or.inl (k_no hK (Or.inr ⟨_, he, rfl⟩) n w)), (K1 n w).2⟩
    · rw [a4, hEN]
      exact ⟨hq', hAq⟩
  · rcases hnb n h1 with w | rfl <;> rcases hnb n' h2 with w' | rfl
    · rw [hA n w, hA n' w'] at e; exact K2 n n' w w' e
    · rw [hA n w, a4] at e; exact absurd e (hkq n w)
    · rw [hA n' w', a4] at e; exact absurd e.symm (hkq n' w')
    · rfl
  · rw [a1 1 (by decide), a1 2 (by decide), z2 3 (by decide) (by omega)]
    exact go2 _ _ b1 (fun _ z => by cases z) (fun _ _ z => by cases z)
  · rw [a1 2 (by decide)]
    exact go2 _ _ b2 (fun _ z => by cases z) (fun _ _ z => by cases z)
  · rw [t6]; exact b3
  · rw [a1 3 (by decide)]
    exact go2 _ _ u1 (fun _ z => by cases z) (fun _ _ z => by cases z)
  · intro j hj
    rw [ha20 j (by omega)]; exact u2 j hj
  · rw [a1 4 (by decide)]
    exact go2 _ _ g1 (fun _ z => by cases z) (fun _ _ z => by cases z)
  · intro j hj
    have := ha20 (6 + j) (by omega)
    rw [show 20 + (6 + j) = 26 + j by omega] at this
    rw [this]; exact g2 j hj
  · rcases hL3 with rfl | rfl | rfl
    · exact lown _ (fun j hj => by show A' (29 + j) = _; rw [kNm_0]; exact hA _ (by have := kna (k := k) (j := 9 + j) (by omega); rwa [show 20 + (9 + j) = 29 + j by omega] at this)) a4
    · exact li 0 (by decide) (by decide) (fun p => A (29 + p)) _ (fun j hj => hA _ (by have := kna (k := k) (j := 9 + j) (by omega); rwa [show 20 + (9 + j) = 29 + j by omega] at this)) l1
    · exact li 0 (by decide) (by decide) (fun p => A (29 + p)) _ (fun j hj => hA _ (by have := kna (k := k) (j := 9 + j) (by omega); rwa [show 20 + (9 + j) = 29 + j by omega] at this)) l1
  · rcases hL3 with rfl | rfl | rfl
    · exact li 1 (by decide) (by decide) (fun p => A (60 + p)) _ (fun j hj => hA _ (kni hj)) l2
    · exact lown _ (fun j hj => hA _ (kni hj)) a4
    · exact li 1 (by decide) (by decide) (fun p => A (60 + p)) _ (fun j hj => hA _ (kni hj)) l2
  · rcases hL3 with rfl | rfl | rfl
    · exact li 2 (by decide) (by decide) (fun p => A (100 + p)) _ (fun j hj => hA _ (knr hj)) l3
    · exact li 2 (by decide) (by decide) (fun p => A (100 + p)) _ (fun j hj => hA _ (knr hj)) l3
    · exact lown _ (fun j hj => hA _ (knr hj)) a4
  · obtain ⟨x1, ⟨fp, x2, x3⟩, x4⟩ := hst p hp
    refine ⟨go2 _ _ x1 (fun _ z => by cases z) (fun _ _ z => by cases z), ⟨fp, go2 _ _ x2 (fun _ z => by cases z) (fun _ _ z => by cases z), x3⟩, ?_⟩
    rw [a1 2 (by decide)]; exact x4
  · rw [a1 1 (by decide), a1 2 (by decide)]; exact w12
  · rw [a1 5 (by decide), a1 6 (by decide), a1 7 (by decide)]; exact d567
  · rcases hL3 with rfl | rfl | rfl
    · intro _
      rw [show A' 8 = e2 from a3, e8 9 (by decide) (by decide) (by decide), e8 10 (by decide) (by decide) (by decide)]
      exact ⟨hfr8 9 (by decide) (by decide) (by decide), hfr8 10 (by decide) (by decide) (by decide)⟩
    · rw [show A' 9 = e2 from a3, e8 8 (by decide) (by decide) (by decide), e8 10 (by decide) (by decide) (by decide)]
      exact fun w => ⟨Ne.symm (hfr8 8 (by decide) (by decide) (by decide)), (d8 w).2⟩
    · rw [show A' 10 = e2 from a3, e8 8 (by decide) (by decide) (by decide), e8 9 (by decide) (by decide) (by decide)]
      exact fun w => ⟨(d8 w).1, Ne.symm (hfr8 8 (by decide) (by decide) (by decide))⟩
  · rcases hL3 with rfl | rfl | rfl
    · rw [show A' 8 = e2 from a3, e8 9 (by decide) (by decide) (by decide), e8 10 (by decide) (by decide) (by decide)]
      exact fun w => ⟨Ne.symm (hfr8 9 (by decide) (by decide) (by decide)), (d9 w).2⟩
    · intro _
      rw [show A' 9 = e2 from a3, e8 8 (by decide) (by decide) (by decide), e8 10 (by decide) (by decide) (by decide)]
      exact ⟨hfr8 8 (by decide) (by decide) (by decide), hfr8 10 (by decide) (by decide) (by decide)⟩
    · rw [show A' 10 = e2 from a3, e8 8 (by decide) (by decide) (by decide), e8 9 (by decide) (by decide) (by decide)]
      exact fun w => ⟨(d9 w).1, Ne.symm (hfr8 9 (by decide) (by decide) (by decide))⟩
  · rcases hL3 with rfl | rfl | rfl
    · rw [show A' 8 = e2 from a3, e8 9 (by decide) (by decide) (by decide), e8 10 (by decide) (by decide) (by decide)]
      exact fun w => ⟨Ne.symm (hfr8 10 (by decide) (by decide) (by decide)), (d10 w).2⟩
    · rw [show A' 9 = e2 from a3, e8 8 (by decide) (by decide) (by decide), e8 10 (by decide) (by decide) (by decide)]
      exact fun w => ⟨(d10 w).1, Ne.symm (hfr8 10 (by decide) (by decide) (by decide))⟩
    · intro _
      rw [show A' 10 = e2 from a3, e8 8 (by decide) (by decide) (by decide), e8 9 (by decide) (by decide) (by decide)]
      exact ⟨hfr8 8 (by decide) (by decide) (by decide), hfr8 9 (by decide) (by decide) (by decide)⟩
