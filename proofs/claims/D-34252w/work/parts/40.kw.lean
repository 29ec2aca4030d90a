/-! THE COMPONENT's WORLD -/
set_option maxRecDepth 100000
/-- accounts (account, field); sizes (0 projects, 1 entries, 2 reservations, 3 the buffer's letters); tables of naturals (0 owner, 1 project, 2 deleted of entries; 3 entry, 4 closed of reservations; 5 lengths of paths; 6 the buffer); the paths' letters; tables of ints (0 blocks, 1 held of entries; 2 blocks of reservations); now, recounted -/
abbrev kS : Type := (Nat → Nat → Int32) × (Nat → Nat) × (Nat → Nat → Nat) × (Nat → Nat → Nat) × (Nat → Nat → Int32) × (Int32 × Int32)
abbrev kA (k : kS) : Nat → Nat → Int32 := k.1
abbrev kZ (k : kS) : Nat → Nat := k.2.1
abbrev kT (k : kS) : Nat → Nat → Nat := k.2.2.1
abbrev kL (k : kS) : Nat → Nat → Nat := k.2.2.2.1
abbrev kI (k : kS) : Nat → Nat → Int32 := k.2.2.2.2.1
abbrev kN (k : kS) : Int32 × Int32 := k.2.2.2.2.2
def kAf (k : kS) (j : Nat) : List Value := [.int (kA k j 0), .int (kA k j 1), .int (kA k j 2), .int (kA k j 3), .int (kA k j 4), .int (kA k j 5), .int (kA k j 6)]
/-- what the changing cells hold: 0 the ledger, 20 + j account j (projects from 29 on), 60 + i entry i, 100 + r reservation r; 200 + p path p, 230 + p its bytes; 1 the buffer, 2 its bytes, 3 users, 4 groups, 5 .. 7 the lists tree, entries, reservations, 8 .. 10 their arrays -/
def kE (A : Nat → Nat) (k : kS) (n : Nat) : zE :=
  if n = 0 then .inr (0, [.ref (A 1), .ref (A 3), .ref (A 4), .ref (A 5), .ref (A 6), .ref (A 7), .int (kN k).1, .int (kN k).2])
  else if n < 29 then .inr (1, kAf k (n - 20))
  else if n < 60 then .inr (2, kAf k (n - 20) ++ [.int (nI (n - 29)), .ref (A (200 + (n - 29)))])
  else if n < 100 then .inr (3, [.int (nI (n - 60)), .int (nI (kT k 0 (n - 60))), .ref (A (29 + kT k 1 (n - 60))), .int (kI k 0 (n - 60)), .int (kI k 1 (n - 60)), .int (nI (kT k 2 (n - 60)))])
  else .inr (4, [.ref (A (60 + kT k 3 (n - 100))), .int (kI k 2 (n - 100)), .int (nI (kT k 4 (n - 100)))])
/-- the names in use -/
def kNb (k : kS) (n : Nat) : Bool := n == 0 || decide (20 ≤ n ∧ n < 29 + kZ k 0) || decide (60 ≤ n ∧ n < 60 + kZ k 1) || decide (100 ≤ n ∧ n < 100 + kZ k 2)
def kH (A : Nat → Nat) (k : kS) (h : zH) : zH := fun a => match (List.range 130).find? (fun n => kNb k n && A n == a) with
  | some n => some (kE A k n)
  | none => h a
/-- the cells of that kind -/
def kcl (e : zE) : Bool := match e with
  | .inr o => decide (o.1 < 5)
  | .inl _ => false
theorem kE_cl (A : Nat → Nat) (k : kS) (n : Nat) : kcl (kE A k n) = true := by
  unfold kE
  split
  · rfl
  · split
    · rfl
    · split
      · rfl
      · split <;> rfl
def kLi (g : zG) (h : zH) (b e n : Nat) (f : Nat → Nat) : Prop := ∃ (mc : Int32) (c : Nat) (F : Nat → Value), h b = some (.inr (8, [.int mc, .ref e, .int (nI n)])) ∧ h e = some (.inl (5, c, F)) ∧ n ≤ c ∧ c < 300 ∧ (∀ j, j < n → F j = .ref (f j)) ∧ zA g b ∧ (zA g e ∨ c = 0) ∧ (c = 0 → e = g.2.2.2.2.2.1)
/-- the cells that stand: buffer, arrays, lists, paths -/
def kSt (g : zG) (A : Nat → Nat) (k : kS) (h : zH) : Prop :=
  zSt g h ∧ (∃ m : Int32, (m = 0 ∨ m = 1) ∧ h (A 1) = some (.inr (6, [.ref (A 2), .int 0, .int m, .int (nI (kZ k 3))]))) ∧
  (∃ f, h (A 2) = some (.inl (4, 16, f)) ∧ zBy f (kT k 6) 16) ∧
  (∃ f, h (A 3) = some (.inl (6, 6, f)) ∧ ∀ j, j < 6 → f j = .ref (A (20 + j))) ∧ (∃ f, h (A 4) = some (.inl (6, 3, f)) ∧ ∀ j, j < 3 → f j = .ref (A (26 + j))) ∧
  kLi g h (A 5) (A 8) (kZ k 0) (fun p => A (29 + p)) ∧ kLi g h (A 6) (A 9) (kZ k 1) (fun i => A (60 + i)) ∧ kLi g h (A 7) (A 10) (kZ k 2) (fun r => A (100 + r)) ∧
  (∀ p, p < kZ k 0 → h (A (200 + p)) = some (.inr (7, [.ref (A (230 + p)), .int 0])) ∧ (∃ f, h (A (230 + p)) = some (.inl (4, kT k 5 p, f)) ∧ zBy f (kL k p) (kT k 5 p)) ∧ A (230 + p) ≠ A 2) ∧
  (zA g (A 1) ∧ zA g (A 2)) ∧ (A 5 ≠ A 6 ∧ A 5 ≠ A 7 ∧ A 6 ≠ A 7) ∧ (zA g (A 8) → A 8 ≠ A 9 ∧ A 8 ≠ A 10) ∧ (zA g (A 9) → A 9 ≠ A 8 ∧ A 9 ≠ A 10) ∧ (zA g (A 10) → A 10 ≠ A 8 ∧ A 10 ≠ A 9)
/-- sizes and ranges -/
def kB (k : kS) : Prop :=
  (1 ≤ kZ k 0 ∧ kZ k 0 ≤ 21) ∧ kZ k 1 ≤ 40 ∧ kZ k 2 ≤ 30 ∧ kZ k 3 ≤ 8 ∧ (∀ i, i < kZ k 1 → kT k 0 i < 6 ∧ kT k 1 i < kZ k 0 ∧ kT k 2 i < 2) ∧ (∀ r, r < kZ k 2 → kT k 3 r < kZ k 1 ∧ kT k 4 r < 2) ∧ ∀ p, p < kZ k 0 → kT k 5 p ≤ 8
def kIs (g : zG) (A : Nat → Nat) (k : kS) (h : zH) : Prop :=
  (∀ n, kNb k n = true → h (A n) = some (kE A k n) ∧ zA g (A n)) ∧ (∀ n n', kNb k n = true → kNb k n' = true → A n = A n' → n = n') ∧ kSt g A k h ∧ kB k
/-- outside of the changing cells nothing that was known is lost -/
def kFr (h h' : zH) : Prop := ∀ (a : Nat) (e : zE), h a = some e → kcl e = false → h' a = some e
theorem zLe.fr {h h' : zH} (l : zLe h h') : kFr h h' := fun a e q _ => l a e q
theorem kLi.fr {g : zG} {h h' : zH} {b e n : Nat} {f : Nat → Nat} (s : kLi g h b e n f) (l : kFr h h') : kLi g h' b e n f := by
  obtain ⟨mc, c, F, h1, h2, h3⟩ := s
  exact ⟨mc, c, F, l _ _ h1 rfl, l _ _ h2 rfl, h3⟩
theorem zSt.fr {g : zG} {h h' : zH} (s : zSt g h) (l : kFr h h') : zSt g h' := by
  obtain ⟨a, ⟨f1, b⟩, ⟨f2, c⟩, d⟩ := s
  exact ⟨l _ _ a rfl, ⟨f1, l _ _ b rfl⟩, ⟨f2, l _ _ c rfl⟩, l _ _ d rfl⟩
theorem kSt.fr {g : zG} {A : Nat → Nat} {k : kS} {h h' : zH} (s : kSt g A k h) (l : kFr h h') : kSt g A k h' := by
  obtain ⟨s0, ⟨m, hm, s1⟩, ⟨f2, s2, s2'⟩, ⟨f3, s3, s3'⟩, ⟨f4, s4, s4'⟩, s5, s6, s7, s8, s9⟩ := s
  exact ⟨s0.fr l, ⟨m, hm, l _ _ s1 rfl⟩, ⟨f2, l _ _ s2 rfl, s2'⟩, ⟨f3, l _ _ s3 rfl, s3'⟩, ⟨f4, l _ _ s4 rfl, s4'⟩, s5.fr l, s6.fr l, s7.fr l, fun p hp => by
    obtain ⟨a, ⟨f, b, c⟩, d⟩ := s8 p hp
    exact ⟨l _ _ a rfl, ⟨f, l _ _ b rfl, c⟩, d⟩, s9⟩
/-- two states whose standing parts are one -/
def kSame (k k' : kS) : Prop := (∀ i, i < 4 → kZ k' i = kZ k i) ∧ kT k' 5 = kT k 5 ∧ kT k' 6 = kT k 6 ∧ kL k' = kL k
theorem kSame.rf {k : kS} : kSame k k := ⟨fun _ _ => rfl, rfl, rfl, rfl⟩
theorem kSame.tr {k k' k'' : kS} (a : kSame k k') (b : kSame k' k'') : kSame k k'' := ⟨fun i hi => (b.1 i hi).trans (a.1 i hi), b.2.1.trans a.2.1, b.2.2.1.trans a.2.2.1, b.2.2.2.trans a.2.2.2⟩
theorem kSame.nb {k k' : kS} (a : kSame k k') (n : Nat) : kNb k' n = kNb k n := by
  unfold kNb
  rw [a.1 0 (by decide), a.1 1 (by decide), a.1 2 (by decide)]
theorem kSt.same {g : zG} {A : Nat → Nat} {k k' : kS} {h : zH} (s : kSt g A k h) (e : kSame k k') : kSt g A k' h := by
  unfold kSt at s ⊢
  rw [e.1 0 (by decide), e.1 1 (by decide), e.1 2 (by decide), e.1 3 (by decide), e.2.1, e.2.2.1, e.2.2.2]
  exact s
theorem kNb_lt {k : kS} (hB : kB k) {n : Nat} (hn : kNb k n = true) : n < 130 := by
  simp only [kNb, Bool.or_eq_true, beq_iff_eq, decide_eq_true_eq] at hn
  have h0 := hB.1.2
  have h1 := hB.2.1
  have h2 := hB.2.2.1
  omega
theorem k_find {A : Nat → Nat} {k k' : kS} (hB : kB k) (hinj : ∀ n n', kNb k n = true → kNb k n' = true → A n = A n' → n = n') (e : kSame k k') {n : Nat} (hn : kNb k n = true) : (List.range 130).find? (fun j => kNb k' j && A j == A n) = some n := by
  cases hx : (List.range 130).find? (fun j => kNb k' j && A j == A n) with
  | none =>
    have := List.find?_eq_none.mp hx n (List.mem_range.mpr (kNb_lt hB hn))
    rw [e.nb] at this
    simp [hn] at this
  | some j =>
    have h1 := List.find?_some hx
    rw [e.nb] at h1
    simp only [Bool.and_eq_true, beq_iff_eq] at h1
    rw [hinj j n h1.1 hn h1.2]
theorem kH_n {g : zG} {A : Nat → Nat} {k k' : kS} {h h0 : zH} (hK : kIs g A k h) (e : kSame k k') {n : Nat} (hn : kNb k n = true) : kH A k' h0 (A n) = some (kE A k' n) := by
  unfold kH
  rw [k_find hK.2.2.2 hK.2.1 e hn]
/-- an address that is none of the changing cells' -/
theorem kH_x {A : Nat → Nat} {k k' : kS} {h0 : zH} (e : kSame k k') {a : Nat} (ha : ∀ n, kNb k n = true → A n ≠ a) : kH A k' h0 a = h0 a := by
  unfold kH
  rw [List.find?_eq_none.mpr (fun n _ => by rw [e.nb]; cases hb : kNb k n with
    | false => simp
    | true => simp [ha n hb])]
theorem k_no {g : zG} {A : Nat → Nat} {k : kS} {h : zH} (hK : kIs g A k h) {a : Nat} (ha : h a = none ∨ ∃ e, h a = some e ∧ kcl e = false) : ∀ n, kNb k n = true → A n ≠ a := by
  intro n hn e
  have h1 := (hK.1 n hn).1
  rw [e] at h1
  rcases ha with h2 | ⟨e', h2, h3⟩
  · rw [h2] at h1; cases h1
  · rw [h2] at h1
    cases h1
    rw [kE_cl] at h3; cases h3
theorem kH_fr {g : zG} {A : Nat → Nat} {k k' : kS} {h h0 : zH} (hK : kIs g A k h) (e : kSame k k') (l : kFr h h0) : kFr h (kH A k' h0) := fun a e' q c => by
  rw [kH_x e (k_no hK (Or.inr ⟨e', q, c⟩))]
  exact l a e' q c
theorem kIs.up {g : zG} {A : Nat → Nat} {k k' : kS} {h : zH} (hK : kIs g A k h) (e : kSame k k') (hB : kB k') : kIs g A k' (kH A k' h) := by
  refine ⟨fun n hn => ?_, fun n n' h1 h2 => hK.2.1 n n' (by rw [← e.nb]; exact h1) (by rw [← e.nb]; exact h2), (hK.2.2.1.same e).fr (kH_fr hK e (fun _ _ q _ => q)), hB⟩
  rw [e.nb] at hn
  exact ⟨kH_n hK e hn, (hK.1 n hn).2⟩
theorem kIs.le {g : zG} {A : Nat → Nat} {k : kS} {h h' : zH} (hK : kIs g A k h) (l : zLe h h') : kIs g A k h' :=
  ⟨fun n hn => ⟨l _ _ (hK.1 n hn).1, (hK.1 n hn).2⟩, hK.2.1, hK.2.2.1.fr l.fr, hK.2.2.2⟩
theorem kH_id {g : zG} {A : Nat → Nat} {k : kS} {h : zH} (hK : kIs g A k h) : kH A k h = h := by
  funext a
  unfold kH
  cases hx : (List.range 130).find? (fun n => kNb k n && A n == a) with
  | none => rfl
  | some n =>
    have h1 := List.find?_some hx
    simp only [Bool.and_eq_true, beq_iff_eq] at h1
    have h2 := (hK.1 n h1.1).1
    rw [h1.2] at h2
    exact h2.symm
theorem kH_kH {A : Nat → Nat} {k k' : kS} {h : zH} (e : kSame k k') : kH A k' (kH A k h) = kH A k' h := by
  funext a
  unfold kH
  have e1 : (fun n => kNb k' n && A n == a) = (fun n => kNb k n && A n == a) := by funext n; rw [e.nb]
  rw [e1]
  cases (List.range 130).find? (fun n => kNb k n && A n == a) <;> rfl
theorem kH_le {A : Nat → Nat} {k : kS} {h h' : zH} (l : zLe h h') : zLe (kH A k h) (kH A k h') := by
  intro a e q
  unfold kH at q ⊢
  cases hx : (List.range 130).find? (fun n => kNb k n && A n == a) with
  | none => rw [hx] at q; exact l a e q
  | some n => rw [hx] at q; exact q
/-- one cell written -/
theorem kH_put {g : zG} {A : Nat → Nat} {k k' : kS} {h : zH} (hK : kIs g A k h) (e : kSame k k') {n : Nat} (hn : kNb k n = true) (ho : ∀ m, kNb k m = true → m ≠ n → kE A k' m = kE A k m) : zup h (A n) (kE A k' n) = kH A k' h := by
  funext a
  unfold zup
  by_cases c : a = A n
  · rw [if_pos c, c, kH_n hK e hn]
  · rw [if_neg c]
    unfold kH
    cases hx : (List.range 130).find? (fun n => kNb k' n && A n == a) with
    | none => rfl
    | some m =>
      have h1 := List.find?_some hx
      rw [e.nb] at h1
      simp only [Bool.and_eq_true, beq_iff_eq] at h1
      have h2 := (hK.1 m h1.1).1
      rw [h1.2] at h2
      rw [h2]
      show some (kE A k m) = some (kE A k' m)
      rw [ho m h1.1 (fun q => c (by rw [← q]; exact h1.2.symm))]
/-- accounts: what is set -/
def kuA (k : kS) (j f : Nat) (x : Int32) : kS := (fun a b => if a = j ∧ b = f then x else k.1 a b, k.2)
def kuI (k : kS) (t i : Nat) (x : Int32) : kS := (k.1, k.2.1, k.2.2.1, k.2.2.2.1, fun a b => if a = t ∧ b = i then x else k.2.2.2.2.1 a b, k.2.2.2.2.2)
def kuT (k : kS) (t i x : Nat) : kS := (k.1, k.2.1, nup2 k.2.2.1 t i x, k.2.2.2.1, k.2.2.2.2)
def kuN (k : kS) (x : Int32) : kS := (k.1, k.2.1, k.2.2.1, k.2.2.2.1, k.2.2.2.2.1, x, k.2.2.2.2.2.2)
def kuR (k : kS) (x : Int32) : kS := (k.1, k.2.1, k.2.2.1, k.2.2.2.1, k.2.2.2.2.1, k.2.2.2.2.2.1, x)
theorem kuA_same {k : kS} {j f : Nat} {x : Int32} : kSame k (kuA k j f x) := kSame.rf
theorem kuI_same {k : kS} {t i : Nat} {x : Int32} : kSame k (kuI k t i x) := kSame.rf
theorem kuN_same {k : kS} {x : Int32} : kSame k (kuN k x) := kSame.rf
theorem kuR_same {k : kS} {x : Int32} : kSame k (kuR k x) := kSame.rf
theorem kuT_same {k : kS} {t i x : Nat} (ht : t < 5) : kSame k (kuT k t i x) := by
  refine ⟨fun _ _ => rfl, ?_, ?_, rfl⟩
  · funext j
    show nup2 k.2.2.1 t i x 5 j = _
    simp only [nup2]; rw [if_neg (by omega)]
  · funext j
    show nup2 k.2.2.1 t i x 6 j = _
    simp only [nup2]; rw [if_neg (by omega)]
theorem kAf_set {k : kS} {j f : Nat} {x : Int32} (hf : f < 7) : (kAf k j).set f (.int x) = kAf (kuA k j f x) j := by
  match f, hf with
  | 0, _ => simp [kAf, kuA, kA]
  | 1, _ => simp [kAf, kuA, kA]
  | 2, _ => simp [kAf, kuA, kA]
  | 3, _ => simp [kAf, kuA, kA]
  | 4, _ => simp [kAf, kuA, kA]
  | 5, _ => simp [kAf, kuA, kA]
  | 6, _ => simp [kAf, kuA, kA]
theorem kAf_ne {k : kS} {j j' f : Nat} {x : Int32} (h : j' ≠ j) : kAf (kuA k j f x) j' = kAf k j' := by
  simp [kAf, kuA, kA, h]
theorem kAf_len (k : kS) (j : Nat) : (kAf k j).length = 7 := rfl
theorem kAf_get {k : kS} {j f : Nat} (hf : f < 7) : (kAf k j)[f]? = some (.int (kA k j f)) := by
  match f, hf with
  | 0, _ => rfl
  | 1, _ => rfl
  | 2, _ => rfl
  | 3, _ => rfl
  | 4, _ => rfl
  | 5, _ => rfl
  | 6, _ => rfl
theorem kE0 {A : Nat → Nat} {k : kS} : kE A k 0 = .inr (0, [.ref (A 1), .ref (A 3), .ref (A 4), .ref (A 5), .ref (A 6), .ref (A 7), .int (kN k).1, .int (kN k).2]) := rfl
theorem kEa {A : Nat → Nat} {k : kS} {j : Nat} (hj : j < 9) : kE A k (20 + j) = .inr (1, kAf k j) := by
  unfold kE; rw [if_neg (by omega), if_pos (by omega), show 20 + j - 20 = j by omega]
theorem kEp {A : Nat → Nat} {k : kS} {j : Nat} (hj : 9 ≤ j) (h2 : j < 40) : kE A k (20 + j) = .inr (2, kAf k j ++ [.int (nI (j - 9)), .ref (A (200 + (j - 9)))]) := by
  unfold kE; rw [if_neg (by omega), if_neg (by omega), if_pos (by omega), show 20 + j - 20 = j by omega, show 20 + j - 29 = j - 9 by omega]
theorem kEi {A : Nat → Nat} {k : kS} {i : Nat} (hi : i < 40) : kE A k (60 + i) = .inr (3, [.int (nI i), .int (nI (kT k 0 i)), .ref (A (29 + kT k 1 i)), .int (kI k 0 i), .int (kI k 1 i), .int (nI (kT k 2 i))]) := by
  unfold kE; rw [if_neg (by omega), if_neg (by omega), if_neg (by omega), if_pos (by omega), show 60 + i - 60 = i by omega]
theorem kEr {A : Nat → Nat} {k : kS} {r : Nat} : kE A k (100 + r) = .inr (4, [.ref (A (60 + kT k 3 r)), .int (kI k 2 r), .int (nI (kT k 4 r))]) := by
  unfold kE; rw [if_neg (by omega), if_neg (by omega), if_neg (by omega), if_neg (by omega), show 100 + r - 100 = r by omega]
theorem kn0 {k : kS} : kNb k 0 = true := rfl
theorem kna {k : kS} {j : Nat} (hj : j < 9 + kZ k 0) : kNb k (20 + j) = true := by
  simp only [kNb, Bool.or_eq_true, beq_iff_eq, decide_eq_true_eq]; omega
theorem kni {k : kS} {i : Nat} (hi : i < kZ k 1) : kNb k (60 + i) = true := by
  simp only [kNb, Bool.or_eq_true, beq_iff_eq, decide_eq_true_eq]; omega
theorem knr {k : kS} {r : Nat} (hr : r < kZ k 2) : kNb k (100 + r) = true := by
  simp only [kNb, Bool.or_eq_true, beq_iff_eq, decide_eq_true_eq]; omega
/-- an account's cell, of whichever kind -/
theorem k_acc {g : zG} {A : Nat → Nat} {k : kS} {h : zH} (hK : kIs g A k h) {j : Nat} (hj : j < 9 + kZ k 0) : (j < 9 ∧ h (A (20 + j)) = some (.inr (1, kAf k j))) ∨ (9 ≤ j ∧ h (A (20 + j)) = some (.inr (2, kAf k j ++ [.int (nI (j - 9)), .ref (A (200 + (j - 9)))]))) := by
  have h1 := (hK.1 _ (kna hj)).1
  have hB := hK.2.2.2.1
  rcases Nat.lt_or_ge j 9 with c | c
  · rw [kEa c] at h1; exact Or.inl ⟨c, h1⟩
  · rw [kEp c (by omega)] at h1; exact Or.inr ⟨c, h1⟩
theorem k_ent {g : zG} {A : Nat → Nat} {k : kS} {h : zH} (hK : kIs g A k h) {i : Nat} (hi : i < kZ k 1) : h (A (60 + i)) = some (.inr (3, [.int (nI i), .int (nI (kT k 0 i)), .ref (A (29 + kT k 1 i)), .int (kI k 0 i), .int (kI k 1 i), .int (nI (kT k 2 i))])) := by
  have h1 := (hK.1 _ (kni hi)).1
  have hB := hK.2.2.2.2.1
  rw [kEi (by omega)] at h1; exact h1
theorem k_res {g : zG} {A : Nat → Nat} {k : kS} {h : zH} (hK : kIs g A k h) {r : Nat} (hr : r < kZ k 2) : h (A (100 + r)) = some (.inr (4, [.ref (A (60 + kT k 3 r)), .int (kI k 2 r), .int (nI (kT k 4 r))])) := by
  have h1 := (hK.1 _ (knr hr)).1
  rw [kEr] at h1; exact h1
theorem k_led {g : zG} {A : Nat → Nat} {k : kS} {h : zH} (hK : kIs g A k h) : h (A 0) = some (.inr (0, [.ref (A 1), .ref (A 3), .ref (A 4), .ref (A 5), .ref (A 6), .ref (A 7), .int (kN k).1, .int (kN k).2])) := (hK.1 0 kn0).1
theorem k_prj {g : zG} {A : Nat → Nat} {k : kS} {h : zH} (hK : kIs g A k h) {p : Nat} (hp : p < kZ k 0) : h (A (29 + p)) = some (.inr (2, kAf k (9 + p) ++ [.int (nI p), .ref (A (200 + p))])) := by
  rcases k_acc hK (j := 9 + p) (by omega) with ⟨c, -⟩ | ⟨-, c⟩
  · omega
  · rw [show 20 + (9 + p) = 29 + p by omega, show 9 + p - 9 = p by omega] at c; exact c
theorem k_str {g : zG} {A : Nat → Nat} {k : kS} {h : zH} (hK : kIs g A k h) {p : Nat} (hp : p < kZ k 0) : zStr h (A (200 + p)) (kT k 5 p) (kL k p) := by
  obtain ⟨a, ⟨f, b, c⟩, -⟩ := hK.2.2.1.2.2.2.2.2.2.2.2.1 p hp
  exact ⟨_, f, a, b, c⟩
theorem kput_a {g : zG} {A : Nat → Nat} {k : kS} {h : zH} (hK : kIs g A k h) {j f : Nat} (x : Int32) (hj : j < 9 + kZ k 0) : zup h (A (20 + j)) (kE A (kuA k j f x) (20 + j)) = kH A (kuA k j f x) h := by
  refine kH_put hK kuA_same (kna hj) (fun m hm hne => ?_)
  have hne' : m - 20 ≠ j ∨ m < 20 := by omega
  unfold kE
  split
  · rfl
  · split
    · rename_i c1 c2
      have : kAf (kuA k j f x) (m - 20) = kAf k (m - 20) := kAf_ne (by
        simp only [kNb, Bool.or_eq_true, beq_iff_eq, decide_eq_true_eq] at hm; omega)
      rw [this]
    · split
      · have : kAf (kuA k j f x) (m - 20) = kAf k (m - 20) := kAf_ne (by omega)
        rw [this]
      · split <;> rfl
theorem kput_i {g : zG} {A : Nat → Nat} {k : kS} {h : zH} (hK : kIs g A k h) {t i : Nat} (x : Int32) (ht : t < 2) (hi : i < kZ k 1) : zup h (A (60 + i)) (kE A (kuI k t i x) (60 + i)) = kH A (kuI k t i x) h := by
  refine kH_put hK kuI_same (kni hi) (fun m hm hne => ?_)
  unfold kE
  split
  · rfl
  · split
    · rfl
    · split
      · rfl
      · split
        · have hne' : m - 60 ≠ i := by omega
          simp [kuI, kI, kT, hne']
        · have h2 : ¬ (2 = t) := by omega
          simp [kuI, kI, kT, h2]
theorem kput_t {g : zG} {A : Nat → Nat} {k : kS} {h : zH} (hK : kIs g A k h) {t i : Nat} (x : Nat) (ht : t < 3) (hi : i < kZ k 1) : zup h (A (60 + i)) (kE A (kuT k t i x) (60 + i)) = kH A (kuT k t i x) h := by
  refine kH_put hK (kuT_same (by omega)) (kni hi) (fun m hm hne => ?_)
  unfold kE
  split
  · rfl
  · split
    · rfl
    · split
      · rfl
      · split
        · have hne' : m - 60 ≠ i := by omega
          simp [kuT, kI, kT, nup2, hne']
        · have h2 : ¬ (3 = t) := by omega
          have h3 : ¬ (4 = t) := by omega
          simp [kuT, kI, kT, nup2, h2, h3]
theorem kput_r {g : zG} {A : Nat → Nat} {k : kS} {h : zH} (hK : kIs g A k h) {r : Nat} (x : Nat) (hr : r < kZ k 2) : zup h (A (100 + r)) (kE A (kuT k 4 r x) (100 + r)) = kH A (kuT k 4 r x) h := by
  refine kH_put hK (kuT_same (by decide)) (knr hr) (fun m hm hne => ?_)
  unfold kE
  split
  · rfl
  · split
    · rfl
    · split
      · rfl
      · split
        · simp [kuT, kI, kT, nup2]
        · have hne' : m - 100 ≠ r := by omega
          simp [kuT, kI, kT, nup2, hne']
theorem kput_0 {g : zG} {A : Nat → Nat} {k k' : kS} {h : zH} (hK : kIs g A k h) (e : kSame k k') (e1 : k'.1 = k.1) (e2 : k'.2.2.1 = k.2.2.1) (e3 : k'.2.2.2.2.1 = k.2.2.2.2.1) : zup h (A 0) (kE A k' 0) = kH A k' h := by
  refine kH_put hK e kn0 (fun m hm hne => ?_)
  unfold kE
  rw [if_neg hne, if_neg hne]
  simp only [kAf, kA, kT, kI, e1, e2, e3]
