/-! CALLS with a plain answer -/
set_option maxRecDepth 100000
theorem zcat {as : List Value} (h : as.all (fun v => v.category == 1) = true) : ∀ v ∈ as, v.category = 1 := fun v hv => by simpa using List.all_eq_true.mp h v hv
section ZC2
variable {Z : zZ} {cc : ByteArray} {ret : Option FieldType} {own : String} {hh : List (Nat × Nat × Nat × Nat)} {fr lo : Nat}
variable {h h1 : zH} {cb sb pc : Nat} {L : List (Option Value)} {st rest : List Value}
variable {y : MethodName} {bytes : ByteArray} {maxL index n fr' lo' mc ms : Nat} {ry : Option FieldType} {As : List Value} {v : Value}
theorem zri {cb' sb' pc' : Nat} (kk : zW Z h1 cb' sb' pc' L (v :: rest)) : ∀ u h', zRi v h1 u h' → zW Z h' cb' sb' pc' L (u.toList ++ rest) := fun u h' e => by obtain ⟨rfl, rfl⟩ := e; exact kk
theorem zrv {cb' sb' pc' : Nat} (kk : zW Z h1 cb' sb' pc' L rest) : ∀ u h', zRv h1 u h' → zW Z h' cb' sb' pc' L (u.toList ++ rest) := fun u h' e => by obtain ⟨rfl, rfl⟩ := e; exact kk
theorem znx {cb' sb' : Nat} : ∀ E h', zNx E h' → zWx Z h' cb' sb' pc L rest E := fun _ _ e => e.elim
/-- answers that are ints, some world behind -/
theorem zrn {post : Option Value → zH → Prop} {cb' sb' pc' : Nat} (hp : ∀ u h', post u h' → ∃ w, u = some w) (kk : ∀ w h', post (some w) h' → zW Z h' cb' sb' pc' L (w :: rest)) : ∀ u h', post u h' → zW Z h' cb' sb' pc' L (u.toList ++ rest) := fun u h' e => by obtain ⟨w, rfl⟩ := hp u h' e; exact kk w h' e
end ZC2
