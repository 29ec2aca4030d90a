/-! JDK: the comparison of eight bytes by words -/
set_option maxRecDepth 100000
theorem c_vec {g : zG} {l : Launch} (hl : l.stackTraces = false) (h : zH) (hS : zSt g h) (a b n1 n2 : Nat) (f1 f2 : Nat → Value) (w1 w2 : Nat → Nat) (ha : h a = some (.inl (4, n1, f1))) (hb : h b = some (.inl (4, n2, f2))) (hw1 : zBy f1 w1 n1) (hw2 : zBy f2 w2 n2) (h1 : 8 ≤ n1) (h2 : 8 ≤ n2) :
    zM g l yJ7_vectorizedMismatch (ws_ yJ7_vectorizedMismatch cJ7_vectorizedMismatch 19 (some .int)) 6 300 0 0 [.ref a, .long 16, .ref b, .long 16, .int (nI 8), .int 0] h (fun u h' => h' = h ∧ ∃ r : Int32, u = some (.int r) ∧ ((r = -1 ∧ zAll (fun j => w1 j == w2 j) 8 = true) ∨ (0 ≤ r ∧ zAll (fun j => w1 j == w2 j) 8 = false))) zNx := sorry
