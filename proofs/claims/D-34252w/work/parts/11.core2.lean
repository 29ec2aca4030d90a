/-! CORE 2: rows on the heap, calls, ends -/
set_option maxRecDepth 100000
theorem zOld.put {g : zG} {H H1 : Heap} {a : Nat} (h : zOld g H) (z : H1.size = H.size) (oq : ∀ q : Nat, q ≠ a → H1[q]? = H[q]?) (ha : zA g a) : zOld g H1 :=
  ⟨by rw [z]; exact h.1, fun q hq => by rw [oq q (fun e => by have h9 : zB g ≤ a := ha; omega)]; exact h.2 q hq⟩
theorem zOld.grow {g : zG} {H H1 : Heap} (h : zOld g H) (z : H.size ≤ H1.size) (oq : ∀ q : Nat, q < H.size → H1[q]? = H[q]?) : zOld g H1 :=
  ⟨Nat.le_trans h.1 z, fun q hq => by rw [oq q (by have := h.1; omega)]; exact h.2 q hq⟩
theorem zRp.put {g : zG} {h : zH} {H H1 : Heap} {a : Nat} {e : zE} (hr : zRp g h H) (oq : ∀ q : Nat, q ≠ a → H1[q]? = H[q]?) (he : zat g a e H1) : zRp g (zup h a e) H1 := by
  intro b e' hb
  by_cases hba : b = a
  · subst hba
    rw [zup_s] at hb
    cases hb
    exact he
  · rw [zup_n hba] at hb
    exact (hr b e' hb).kept (oq b hba)
theorem zOk.put {Z : zZ} {h : zH} {H H1 : Heap} {locs : List Loc} {a k : Nat} {e : zE} (ok : zOk Z h H locs) (z : H1.size = H.size) (oq : ∀ q : Nat, q ≠ a → H1[q]? = H[q]?) (ha : zA Z.1 a) (he : zat Z.1 a e H1) : zOk Z (zup h a e) H1 (locs ++ [⟨a, k⟩]) :=
  ⟨ok.1.put oq he, ok.2.1.put z oq ha, by rw [z]; exact ok.2.2.1, fun q hq => by
    rcases List.mem_append.mp hq with h1 | h1
    · exact ok.2.2.2 q h1
    · rw [List.mem_singleton.mp h1]; exact ha⟩
theorem zOk.new {Z : zZ} {h : zH} {H H1 : Heap} {locs : List Loc} {e : zE} (ok : zOk Z h H locs) (z : H1.size = H.size + 1) (oq : ∀ q : Nat, q < H.size → H1[q]? = H[q]?) (he : zat Z.1 H.size e H1) : zOk Z (zup h H.size e) H1 locs := by
  refine ⟨fun b e' hb => ?_, ok.2.1.grow (by omega) oq, by rw [z]; exact Nat.le_succ_of_le ok.2.2.1, ok.2.2.2⟩
  by_cases hba : b = H.size
  · subst hba
    rw [zup_s] at hb
    cases hb
    exact he
  · rw [zup_n hba] at hb
    exact (ok.1 b e' hb).kept (oq b (ok.1 b e' hb).lt)
theorem zty_get (g : zG) {k : Nat} (hk : k < 7) : (ztys g)[k]? = some (g.2.1 k, zTy k) := by
  simp [ztys, List.getElem?_range hk]
theorem zarr_of {g : zG} {s : State} (hA : zAmb g s) {k : Nat} (hk : k < 7) {cell : Cell} (hc : cell.cls = g.2.1 k) (hv : cell.vm.isStatics = false) : s.isArrayOf cell (zTy k) := by
  obtain ⟨-, kA, h1, h2⟩ := (hA.1.2 k _ (zty_get g hk)).1 0 (fun _ => .null)
  refine ⟨fun q e => ?_, kA, ?_, h2⟩
  · rw [e] at hv; cases hv
  · rw [hc]; exact h1
theorem vnS {v : VmData} (h : v.isStatics = false) : ∀ q, v ≠ .statics q := fun q e => by rw [e] at h; cases h
section ZHEAP
variable {Z : zZ} {cc : ByteArray} {ret : Option FieldType} {own : String} {hh : List (Nat × Nat × Nat × Nat)} {fr lo : Nat}
variable {h : zH} {cb sb pc : Nat} {L : List (Option Value)} {st rest : List Value}
/-- getfield -/
theorem r_get (hC : zC Z cc ret own hh fr lo) {C : String} {T : u_T} {N ci index a : Nat} {fs : List Value} {v : Value} {ref nm ds : String} (kf : Nat) (hin : ∀ w ∈ u_ws C T N, w ∈ lw_all) (hc : zcl[ci]? = some (C, T, N)) (he : h a = some (.inr (ci, fs))) (hk : kf < N) (hT : (T kf).1 = ref ∧ (T kf).2.1 = nm ∧ (T kf).2.2.1 = ds) (hlink : Cond.fieldLink own index ref nm ds ∈ lw_all) (hv : fs[kf]? = some v) (d : decode cc pc = .ok (.getfield index, 3)) (k : zW Z h cb sb (pc + 3) L (v :: rest)) : zW Z h cb sb pc L (.ref a :: rest) := by
  obtain ⟨rfl, rfl, rfl⟩ := hT
  intro H locs cells slots ls ok hcb hsb hls
  obtain ⟨cell, q1, q2, q2', q3, r, h1, q4, q5⟩ := ok.1 a _ he
  have hr : r = (C, T, N) := Option.some.inj (h1.symm.trans hc)
  subst hr
  have hts := hC.2.2.2.2.2.1
  obtain ⟨hS, hfc, kC, hkC, hkind⟩ := hC.2.2.2.2.2.2.2.2.1.1.1 ci _ hc
  obtain ⟨cf, kf', fi, f, hi, hsl⟩ := hS kf hk
  have hst := (u_facts hfc hkC (u_lays hts hin hk) hi).1
  refine W.getf hC.1 hC.2.1 hC.2.2.2.2.1 (hts _ hlink) hi hst q1 q2 (v := v) ?_ rfl rfl d (k H locs cells slots ls ok hcb hsb hls)
  rw [hsl, q5 kf hk]
  simp [vp_V, hv]
/-- getfield of a nest mate's private field -/
theorem r_getN (hC : zC Z cc ret own hh fr lo) {C : String} {T : u_T} {N ci index a : Nat} {fs : List Value} {v : Value} {ref nm ds host : String} (kf : Nat) (hin : ∀ w ∈ u_ws C T N, w ∈ lw_all) (hc : zcl[ci]? = some (C, T, N)) (he : h a = some (.inr (ci, fs))) (hk : kf < N) (hT : (T kf).1 = ref ∧ (T kf).2.1 = nm ∧ (T kf).2.2.1 = ds) (hlink : (own, index, ref, nm, ds, host) ∈ zNf) (hv : fs[kf]? = some v) (d : decode cc pc = .ok (.getfield index, 3)) (k : zW Z h cb sb (pc + 3) L (v :: rest)) : zW Z h cb sb pc L (.ref a :: rest) := by
  obtain ⟨rfl, rfl, rfl⟩ := hT
  intro H locs cells slots ls ok hcb hsb hls
  obtain ⟨cell, q1, q2, q2', q3, r, h1, q4, q5⟩ := ok.1 a _ he
  have hr : r = (C, T, N) := Option.some.inj (h1.symm.trans hc)
  subst hr
  have hts := hC.2.2.2.2.2.1
  have hA := hC.2.2.2.2.2.2.2.2.1
  obtain ⟨hS, hfc, kC, hkC, hkind⟩ := hA.1.1 ci _ hc
  obtain ⟨cf, kf', fi, f, hi, hsl⟩ := hS kf hk
  have hst := (u_facts hfc hkC (u_lays hts hin hk) hi).1
  refine va_Wgetf hC.1 hC.2.1 hC.2.2.2.2.1 (va_Nw.use rfl (hA.2.1 _ hlink)) hi hst q1 q2 (v := v) ?_ rfl rfl d (k H locs cells slots ls ok hcb hsb hls)
  rw [hsl, q5 kf hk]
  simp [vp_V, hv]
theorem zput_at {g : zG} {s : State} {args : Array Value} {own C : String} {T : u_T} {N ci a kf : Nat} {fs : List Value} {v : Value} {cell : Cell} {H1 : Heap} (hts : ∀ w ∈ lw_all, w.before args s = true) (hin : ∀ w ∈ u_ws C T N, w ∈ lw_all) (ty0 : Nat → FieldType) (hty : ∀ k, k < N → parseFieldDescriptor (T k).2.2.1 = some (ty0 k)) (hnm : ∀ a, a < N → ∀ b, b < N → a ≠ b → (T a).2.1 ≠ (T b).2.1) (hK : va_K g.1 zcl (ztys g) s) (hc : zcl[ci]? = some (C, T, N)) (hk : kf < N) (hl : kf < fs.length)
    (e1 : H1[a]? = some (cell.setSlot (g.1.2 ci kf) v)) (q2 : cell.vm ≠ .unknown) (q2' : cell.vm.isStatics = false) (q3 : cell.vm = .none) (q4 : cell.cls = g.1.1 ci) (q5 : ∀ k, k < N → cell.slots[g.1.2 ci k]? = some (vp_V fs k)) : zat g a (.inr (ci, fs.set kf v)) H1 := by
  have hap := va_apart (own := own) hts hin ty0 hty hnm hK hc
  refine ⟨_, e1, q2, q2', fun _ => q3, (C, T, N), hc, q4, fun j hj => ?_⟩
  rw [t_set q5 hap hk v j hj]
  exact congrArg some (vp_updV_set hl v j)
/-- putfield -/
theorem r_put (hC : zC Z cc ret own hh fr lo) {C : String} {T : u_T} {N ci index a : Nat} {fs fs' : List Value} {v : Value} {ref nm ds : String} {ty : FieldType} (kf : Nat) (hin : ∀ w ∈ u_ws C T N, w ∈ lw_all) (ty0 : Nat → FieldType) (hty : ∀ k, k < N → parseFieldDescriptor (T k).2.2.1 = some (ty0 k)) (hnm : ∀ a, a < N → ∀ b, b < N → a ≠ b → (T a).2.1 ≠ (T b).2.1) (hc : zcl[ci]? = some (C, T, N)) (ha : zA Z.1 a) (he : h a = some (.inr (ci, fs))) (hk : kf < N) (hT : (T kf).1 = ref ∧ (T kf).2.1 = nm ∧ (T kf).2.2.1 = ds ∧ (T kf).2.2.2 = false) (hlink : Cond.fieldLink own index ref nm ds ∈ lw_all) (hd : parseFieldDescriptor ds = some ty) (hn : narrow ty v = v) (hfit : fits ty v = true) (hl : kf < fs.length) (hs : fs.set kf v = fs') (d : decode cc pc = .ok (.putfield index, 3))
    (k : zW Z (zup h a (.inr (ci, fs'))) cb sb (pc + 3) L rest) : zW Z h cb sb pc L (v :: .ref a :: rest) := by
  obtain ⟨rfl, rfl, rfl, hfin⟩ := hT
  subst hs
  intro H locs cells slots ls ok hcb hsb hls
  obtain ⟨cell, q1, q2, q2', q3, r, h1, q4, q5⟩ := ok.1 a _ he
  have hr : r = (C, T, N) := Option.some.inj (h1.symm.trans hc)
  subst hr
  have hts := hC.2.2.2.2.2.1
  have hA := hC.2.2.2.2.2.2.2.2.1
  obtain ⟨hS, hfc, kC, hkC, hkind⟩ := hA.1.1 ci _ hc
  obtain ⟨cf, kf', fi, f, hi, hsl⟩ := hS kf hk
  have hst := (u_facts hfc hkC (u_lays hts hin hk) hi).1
  have hlay := hts _ (hin _ (u_in_lay hk))
  unfold u_lay at hlay
  rw [if_neg (by rw [hfin]; exact Bool.false_ne_true)] at hlay
  have h6 := u_store hfc hkC hkind hlay hi hd hn hfit
  refine W.putK hC.1 hC.2.1 (f := f) ⟨hC.2.2.2.2.1, hts _ hlink, ⟨_, _, _, hi⟩, hst⟩ (by rw [q4]; exact h6) q1 (q3 ha) (by rw [hsl]; exact k2_hasslot (q5 kf hk)) rfl rfl d fun H' e1 e2 e3 => ?_
  rw [hsl] at e1 ⊢
  exact k H' _ cells slots ls (ok.put e2 e3 ha (zput_at (own := "") hts hin ty0 hty hnm hA.1 hc hk hl e1 q2 q2' (q3 ha) q4 q5)) hcb hsb hls
/-- putfield of a nest mate's private field -/
theorem r_putN (hC : zC Z cc ret own hh fr lo) {C : String} {T : u_T} {N ci index a : Nat} {fs fs' : List Value} {v : Value} {ref nm ds host : String} {ty : FieldType} (kf : Nat) (hin : ∀ w ∈ u_ws C T N, w ∈ lw_all) (ty0 : Nat → FieldType) (hty : ∀ k, k < N → parseFieldDescriptor (T k).2.2.1 = some (ty0 k)) (hnm : ∀ a, a < N → ∀ b, b < N → a ≠ b → (T a).2.1 ≠ (T b).2.1) (hc : zcl[ci]? = some (C, T, N)) (ha : zA Z.1 a) (he : h a = some (.inr (ci, fs))) (hk : kf < N) (hT : (T kf).1 = ref ∧ (T kf).2.1 = nm ∧ (T kf).2.2.1 = ds ∧ (T kf).2.2.2 = false) (hlink : (own, index, ref, nm, ds, host) ∈ zNf) (hd : parseFieldDescriptor ds = some ty) (hn : narrow ty v = v) (hfit : fits ty v = true) (hl : kf < fs.length) (hs : fs.set kf v = fs') (d : decode cc pc = .ok (.putfield index, 3))
    (k : zW Z (zup h a (.inr (ci, fs'))) cb sb (pc + 3) L rest) : zW Z h cb sb pc L (v :: .ref a :: rest) := by
  obtain ⟨rfl, rfl, rfl, hfin⟩ := hT
  subst hs
  intro H locs cells slots ls ok hcb hsb hls
  obtain ⟨cell, q1, q2, q2', q3, r, h1, q4, q5⟩ := ok.1 a _ he
  have hr : r = (C, T, N) := Option.some.inj (h1.symm.trans hc)
  subst hr
  have hts := hC.2.2.2.2.2.1
  have hA := hC.2.2.2.2.2.2.2.2.1
  obtain ⟨hS, hfc, kC, hkC, hkind⟩ := hA.1.1 ci _ hc
  obtain ⟨cf, kf', fi, f, hi, hsl⟩ := hS kf hk
  have hst := (u_facts hfc hkC (u_lays hts hin hk) hi).1
  have hlay := hts _ (hin _ (u_in_lay hk))
  unfold u_lay at hlay
  rw [if_neg (by rw [hfin]; exact Bool.false_ne_true)] at hlay
  have h6 := u_store hfc hkC hkind hlay hi hd hn hfit
  refine va_WputK hC.1 hC.2.1 (f := f) hC.2.2.2.2.1 (va_Nw.use rfl (hA.2.1 _ hlink)) hi hst (by rw [q4]; exact h6) q1 (q3 ha) (by rw [hsl]; exact k2_hasslot (q5 kf hk)) rfl rfl d fun H' e1 e2 e3 => ?_
  rw [hsl] at e1 ⊢
  exact k H' _ cells slots ls (ok.put e2 e3 ha (zput_at (own := "") hts hin ty0 hty hnm hA.1 hc hk hl e1 q2 q2' (q3 ha) q4 q5)) hcb hsb hls
/-- putfield of a final field in its constructor -/
theorem r_putF (hC : zC Z cc ret own hh fr lo) {C : String} {T : u_T} {N ci index a : Nat} {fs fs' : List Value} {v : Value} {nm ds : String} {ty : FieldType} (kf : Nat) (hin : ∀ w ∈ u_ws C T N, w ∈ lw_all) (ty0 : Nat → FieldType) (hty : ∀ k, k < N → parseFieldDescriptor (T k).2.2.1 = some (ty0 k)) (hnm : ∀ a, a < N → ∀ b, b < N → a ≠ b → (T a).2.1 ≠ (T b).2.1) (hc : zcl[ci]? = some (C, T, N)) (hini : (zt Z).name = "<init>") (ha : zA Z.1 a) (he : h a = some (.inr (ci, fs))) (hk : kf < N) (hT : (T kf).1 = own ∧ (T kf).2.1 = nm ∧ (T kf).2.2.1 = ds ∧ (T kf).2.2.2 = true) (hlink : Cond.fieldLink own index own nm ds ∈ lw_all) (hd : parseFieldDescriptor ds = some ty) (hn : narrow ty v = v) (hfit : fits ty v = true) (hl : kf < fs.length) (hs : fs.set kf v = fs') (d : decode cc pc = .ok (.putfield index, 3))
    (k : zW Z (zup h a (.inr (ci, fs'))) cb sb (pc + 3) L rest) : zW Z h cb sb pc L (v :: .ref a :: rest) := by
  obtain ⟨hT1, rfl, rfl, hfin⟩ := hT
  subst hT1
  subst hs
  intro H locs cells slots ls ok hcb hsb hls
  obtain ⟨cell, q1, q2, q2', q3, r, h1, q4, q5⟩ := ok.1 a _ he
  have hr : r = (C, T, N) := Option.some.inj (h1.symm.trans hc)
  subst hr
  have hts := hC.2.2.2.2.2.1
  have hA := hC.2.2.2.2.2.2.2.2.1
  have hown := hC.2.2.2.2.1
  obtain ⟨hS, hfc, kC, hkC, hkind⟩ := hA.1.1 ci _ hc
  obtain ⟨cf, kf', fi, f, hi, hsl⟩ := hS kf hk
  have hlay := hts _ (hin _ (u_in_lay hk))
  unfold u_lay at hlay
  rw [if_pos hfin] at hlay
  have hst := (u_facts hfc hkC (u_lays hts hin hk) hi).1
  have hcf : (zm Z).cls = cf := by
    obtain ⟨_, _, c', _, _, _, -, -, hf', -, -, -, hown2, -⟩ := Cond.laysFinal_spec hlay
    have e1 : c' = cf := by have := hi.symm.trans hf'; simp at this; exact this.1.symm
    rw [← e1]; exact Option.some.inj (hown.symm.trans hown2)
  have h6 := u_fits hfc hkC hkind (Or.inr hlay) hi hd hn hfit
  refine W.putFinK hC.1 hC.2.1 hown (hts _ hlink) hi hst hcf hini (by rw [q4]; exact h6) q1 (q3 ha) (by rw [hsl]; exact k2_hasslot (q5 kf hk)) rfl rfl d fun H' e1 e2 e3 => ?_
  rw [hsl] at e1 ⊢
  exact k H' _ cells slots ls (ok.put e2 e3 ha (zput_at (own := "") hts hin ty0 hty hnm hA.1 hc hk hl e1 q2 q2' (q3 ha) q4 q5)) hcb hsb hls
/-- getstatic of an old static -/
theorem r_gets (hC : zC Z cc ret own hh fr lo) {C n9 d9 : String} {v : Value} {index : Nat} (hZ : va_Z C n9 d9 v (zA Z.1) (zs Z) Z.1.2.2.1) (hlink : Cond.fieldLink own index C n9 d9 ∈ lw_all) (d : decode cc pc = .ok (.getstatic index, 3)) (k : zW Z h cb sb (pc + 3) L (v :: st)) : zW Z h cb sb pc L st := by
  intro H locs cells slots ls ok hcb hsb hls
  obtain ⟨cf, kf, fi, f, a, cell, h1, h2, h3, h4, h5, h6, h7, h8⟩ := hZ
  exact W.gets hC.1 hC.2.1 hC.2.2.2.2.1 (hC.2.2.2.2.2.1 _ hlink) h1 h2 h3 h4 (by rw [ok.2.1.2 a (Array.getElem?_eq_some_iff.mp h5).1]; exact h5) (fun e => by rw [e] at h6; cases h6) h7 rfl d (k H locs cells slots ls ok hcb hsb hls)
/-- arrays: loads -/
theorem r_ald {n9 : Nat} {op : Instr} (hC : zC Z cc ret own hh fr lo) (kd : Nat) {a : Nat} {f : Nat → Value} {i : Int32} {v : Value} (he : h a = some (.inl (kd, n9, f))) (hin : vp_in i n9) (hv : f i.toNatClampNeg = v) (d : decode cc pc = .ok (op, 1))
    (hop : (kd = 0 ∧ op = .iaload) ∨ (kd = 2 ∧ op = .caload) ∨ (kd = 3 ∧ op = .baload) ∨ (kd = 4 ∧ op = .baload) ∨ (kd = 5 ∧ op = .aaload) ∨ (kd = 6 ∧ op = .aaload)) (k : zW Z h cb sb (pc + 1) L (v :: rest)) : zW Z h cb sb pc L (.int i :: .ref a :: rest) := by
  subst hv
  intro H locs cells slots ls ok hcb hsb hls
  obtain ⟨cell, q1, q2, q2', q3, hk7, q4, q5, q6⟩ := ok.1 a _ he
  have hlt : i.toNatClampNeg < n9 := Nat.not_le.mp fun q => hin (Or.inr q)
  have hin' : ¬ (i < 0 ∨ cell.slots.size ≤ i.toNatClampNeg) := by rw [q5]; exact hin
  have harr := zarr_of hC.2.2.2.2.2.2.2.2.1 hk7 q4 q2'
  have k9 := k H locs cells slots ls ok hcb hsb hls
  rcases hop with ⟨rfl, rfl⟩ | ⟨rfl, rfl⟩ | ⟨rfl, rfl⟩ | ⟨rfl, rfl⟩ | ⟨rfl, rfl⟩ | ⟨rfl, rfl⟩
  · exact W.iald hC.1 hC.2.1 q1 harr q2 hin' (q6 _ hlt) rfl rfl d k9
  · exact W.cald hC.1 hC.2.1 q1 harr q2 hin' (q6 _ hlt) rfl rfl d k9
  · exact W.zald hC.1 hC.2.1 q1 harr q2 hin' (q6 _ hlt) rfl rfl d k9
  · exact W.bald hC.1 hC.2.1 q1 harr q2 hin' (q6 _ hlt) rfl rfl d k9
  · exact W.aald hC.1 hC.2.1 q1 harr rfl q2 hin' (q6 _ hlt) rfl rfl d k9
  · exact W.aald hC.1 hC.2.1 q1 harr rfl q2 hin' (q6 _ hlt) rfl rfl d k9
theorem r_iald (hC : zC Z cc ret own hh fr lo) {n9 a : Nat} {f : Nat → Value} {i : Int32} {v : Value} (d : decode cc pc = .ok (.iaload, 1)) (he : h a = some (.inl (0, n9, f))) (hin : vp_in i n9) (hv : f i.toNatClampNeg = v) (k : zW Z h cb sb (pc + 1) L (v :: rest)) : zW Z h cb sb pc L (.int i :: .ref a :: rest) := r_ald hC 0 he hin hv d (by simp) k
theorem r_cald (hC : zC Z cc ret own hh fr lo) {n9 a : Nat} {f : Nat → Value} {i : Int32} {v : Value} (d : decode cc pc = .ok (.caload, 1)) (he : h a = some (.inl (2, n9, f))) (hin : vp_in i n9) (hv : f i.toNatClampNeg = v) (k : zW Z h cb sb (pc + 1) L (v :: rest)) : zW Z h cb sb pc L (.int i :: .ref a :: rest) := r_ald hC 2 he hin hv d (by simp) k
theorem r_zald (hC : zC Z cc ret own hh fr lo) {n9 a : Nat} {f : Nat → Value} {i : Int32} {v : Value} (d : decode cc pc = .ok (.baload, 1)) (he : h a = some (.inl (3, n9, f))) (hin : vp_in i n9) (hv : f i.toNatClampNeg = v) (k : zW Z h cb sb (pc + 1) L (v :: rest)) : zW Z h cb sb pc L (.int i :: .ref a :: rest) := r_ald hC 3 he hin hv d (by simp) k
theorem r_bald (hC : zC Z cc ret own hh fr lo) {n9 a : Nat} {f : Nat → Value} {i : Int32} {v : Value} (d : decode cc pc = .ok (.baload, 1)) (he : h a = some (.inl (4, n9, f))) (hin : vp_in i n9) (hv : f i.toNatClampNeg = v) (k : zW Z h cb sb (pc + 1) L (v :: rest)) : zW Z h cb sb pc L (.int i :: .ref a :: rest) := r_ald hC 4 he hin hv d (by simp) k
theorem r_aald (hC : zC Z cc ret own hh fr lo) (kd : Nat) {n9 a : Nat} {f : Nat → Value} {i : Int32} {v : Value} (d : decode cc pc = .ok (.aaload, 1)) (he : h a = some (.inl (kd, n9, f))) (hk : kd = 5 ∨ kd = 6) (hin : vp_in i n9) (hv : f i.toNatClampNeg = v) (k : zW Z h cb sb (pc + 1) L (v :: rest)) : zW Z h cb sb pc L (.int i :: .ref a :: rest) := r_ald hC kd he hin hv d (by rcases hk with rfl | rfl <;> simp) k
theorem r_alen (hC : zC Z cc ret own hh fr lo) {kd n9 a : Nat} {f : Nat → Value} (d : decode cc pc = .ok (.arraylength, 1)) (he : h a = some (.inl (kd, n9, f))) (k : zW Z h cb sb (pc + 1) L (.int (nI n9) :: rest)) : zW Z h cb sb pc L (.ref a :: rest) := by
  intro H locs cells slots ls ok hcb hsb hls
  obtain ⟨cell, q1, q2, q2', q3, hk7, q4, q5, q6⟩ := ok.1 a _ he
  exact W.alen (n := nI n9) hC.1 hC.2.1 q1 (zarr_of hC.2.2.2.2.2.2.2.2.1 hk7 q4 q2') (by rw [q5]; rfl) rfl rfl d (k H locs cells slots ls ok hcb hsb hls)
/-- arrays: stores -/
def zst (f : Nat → Value) (k : Nat) (v : Value) : Nat → Value := fun j => if j = k then v else f j
theorem zst_at {g : zG} {a kd n9 j : Nat} {f : Nat → Value} {v : Value} {cell : Cell} {H1 : Heap} (e : H1[a]? = some (cell.setSlot j v)) (q2 : cell.vm ≠ .unknown) (q2' : cell.vm.isStatics = false) (q3 : cell.vm = .none) (hk7 : kd < 7) (q4 : cell.cls = g.2.1 kd) (q5 : cell.slots.size = n9) (q6 : ∀ j, j < n9 → cell.slots[j]? = some (f j)) : zat g a (.inl (kd, n9, zst f j v)) H1 := by
  refine ⟨_, e, q2, q2', fun _ => q3, hk7, q4, by rw [k2_slotsz]; exact q5, fun i hi => ?_⟩
  show (cell.slots.setIfInBounds j v)[i]? = _
  by_cases hij : i = j
  · subst hij
    simp [zst, q5, hi]
  · rw [Array.getElem?_setIfInBounds_ne (fun q => hij q.symm), q6 i hi]
    simp [zst, hij]
theorem r_ist (hC : zC Z cc ret own hh fr lo) {n9 a : Nat} {f : Nat → Value} {i x : Int32} (d : decode cc pc = .ok (.iastore, 1)) (he : h a = some (.inl (0, n9, f))) (ha : zA Z.1 a) (hin : vp_in i n9) (k : zW Z (zup h a (.inl (0, n9, zst f i.toNatClampNeg (.int x)))) cb sb (pc + 1) L rest) : zW Z h cb sb pc L (.int x :: .int i :: .ref a :: rest) := by
  intro H locs cells slots ls ok hcb hsb hls
  obtain ⟨cell, q1, q2, q2', q3, hk7, q4, q5, q6⟩ := ok.1 a _ he
  exact W.iast hC.1 hC.2.1 q1 (zarr_of hC.2.2.2.2.2.2.2.2.1 hk7 q4 q2') q2 (by rw [q5]; exact hin) rfl rfl d fun H1 e z oq => k H1 _ cells slots ls (ok.put z oq ha (zst_at e q2 q2' (q3 ha) hk7 q4 q5 q6)) hcb hsb hls
theorem r_cst (hC : zC Z cc ret own hh fr lo) {n9 a : Nat} {f : Nat → Value} {i x : Int32} {v : Value} (d : decode cc pc = .ok (.castore, 1)) (he : h a = some (.inl (2, n9, f))) (ha : zA Z.1 a) (hin : vp_in i n9) (hv : narrow .char (.int x) = v) (k : zW Z (zup h a (.inl (2, n9, zst f i.toNatClampNeg v))) cb sb (pc + 1) L rest) : zW Z h cb sb pc L (.int x :: .int i :: .ref a :: rest) := by
  subst hv
  intro H locs cells slots ls ok hcb hsb hls
  obtain ⟨cell, q1, q2, q2', q3, hk7, q4, q5, q6⟩ := ok.1 a _ he
  exact W.cast hC.1 hC.2.1 q1 (zarr_of hC.2.2.2.2.2.2.2.2.1 hk7 q4 q2') q2 (by rw [q5]; exact hin) rfl rfl d fun H1 e z oq => k H1 _ cells slots ls (ok.put z oq ha (zst_at e q2 q2' (q3 ha) hk7 q4 q5 q6)) hcb hsb hls
theorem r_zst (hC : zC Z cc ret own hh fr lo) {n9 a : Nat} {f : Nat → Value} {i x : Int32} {v : Value} (d : decode cc pc = .ok (.bastore, 1)) (he : h a = some (.inl (3, n9, f))) (ha : zA Z.1 a) (hin : vp_in i n9) (hv : narrow .boolean (.int x) = v) (k : zW Z (zup h a (.inl (3, n9, zst f i.toNatClampNeg v))) cb sb (pc + 1) L rest) : zW Z h cb sb pc L (.int x :: .int i :: .ref a :: rest) := by
  subst hv
  intro H locs cells slots ls ok hcb hsb hls
  obtain ⟨cell, q1, q2, q2', q3, hk7, q4, q5, q6⟩ := ok.1 a _ he
  exact W.zast hC.1 hC.2.1 q1 (zarr_of hC.2.2.2.2.2.2.2.2.1 hk7 q4 q2') q2 (by rw [q5]; exact hin) rfl rfl d fun H1 e z oq => k H1 _ cells slots ls (ok.put z oq ha (zst_at e q2 q2' (q3 ha) hk7 q4 q5 q6)) hcb hsb hls
theorem r_bst (hC : zC Z cc ret own hh fr lo) {n9 a : Nat} {f : Nat → Value} {i x : Int32} {v : Value} (d : decode cc pc = .ok (.bastore, 1)) (he : h a = some (.inl (4, n9, f))) (ha : zA Z.1 a) (hin : vp_in i n9) (hv : narrow .byte (.int x) = v) (k : zW Z (zup h a (.inl (4, n9, zst f i.toNatClampNeg v))) cb sb (pc + 1) L rest) : zW Z h cb sb pc L (.int x :: .int i :: .ref a :: rest) := by
  subst hv
  intro H locs cells slots ls ok hcb hsb hls
  obtain ⟨cell, q1, q2, q2', q3, hk7, q4, q5, q6⟩ := ok.1 a _ he
  exact W.bast hC.1 hC.2.1 q1 (zarr_of hC.2.2.2.2.2.2.2.2.1 hk7 q4 q2') q2 (by rw [q5]; exact hin) rfl rfl d fun H1 e z oq => k H1 _ cells slots ls (ok.put z oq ha (zst_at e q2 q2' (q3 ha) hk7 q4 q5 q6)) hcb hsb hls
theorem r_lst (hC : zC Z cc ret own hh fr lo) {n9 a : Nat} {f : Nat → Value} {i : Int32} {x : Int64} (d : decode cc pc = .ok (.lastore, 1)) (he : h a = some (.inl (1, n9, f))) (ha : zA Z.1 a) (hin : vp_in i n9) (k : zW Z (zup h a (.inl (1, n9, zst f i.toNatClampNeg (.long x)))) cb sb (pc + 1) L rest) : zW Z h cb sb pc L (.long x :: .int i :: .ref a :: rest) := by
  intro H locs cells slots ls ok hcb hsb hls
  obtain ⟨cell, q1, q2, q2', q3, hk7, q4, q5, q6⟩ := ok.1 a _ he
  exact W.last hC.1 hC.2.1 q1 (zarr_of hC.2.2.2.2.2.2.2.2.1 hk7 q4 q2') q2 (by rw [q5]; exact hin) rfl rfl d fun H1 e z oq => k H1 _ cells slots ls (ok.put z oq ha (zst_at e q2 q2' (q3 ha) hk7 q4 q5 q6)) hcb hsb hls
theorem r_lald (hC : zC Z cc ret own hh fr lo) {n9 a : Nat} {f : Nat → Value} {i : Int32} {v : Value} (d : decode cc pc = .ok (.laload, 1)) (he : h a = some (.inl (1, n9, f))) (hin : vp_in i n9) (hv : f i.toNatClampNeg = v) (k : zW Z h cb sb (pc + 1) L (v :: rest)) : zW Z h cb sb pc L (.int i :: .ref a :: rest) := by
  subst hv
  intro H locs cells slots ls ok hcb hsb hls
  obtain ⟨cell, q1, q2, q2', q3, hk7, q4, q5, q6⟩ := ok.1 a _ he
  exact W.lald hC.1 hC.2.1 q1 (zarr_of hC.2.2.2.2.2.2.2.2.1 hk7 q4 q2') q2 (by rw [q5]; exact hin) (q6 _ (Nat.not_le.mp fun q => hin (Or.inr q))) rfl rfl d (k H locs cells slots ls ok hcb hsb hls)
/-- aastore of an object whose kind goes into the array's -/
theorem r_astq (hC : zC Z cc ret own hh fr lo) (kd ci : Nat) {n9 a v : Nat} {f : Nat → Value} {fs : List Value} {r : vw_C} {i : Int32} {E : String} (d : decode cc pc = .ok (.aastore, 1)) (he : h a = some (.inl (kd, n9, f))) (hE : zTy kd = .object E) (ha : zA Z.1 a) (hv : h v = some (.inr (ci, fs))) (hc : zcl[ci]? = some r) (hca : (r.1, E) ∈ zCa ∨ r.1 = E) (hin : vp_in i n9) (k : zW Z (zup h a (.inl (kd, n9, zst f i.toNatClampNeg (.ref v)))) cb sb (pc + 1) L rest) : zW Z h cb sb pc L (.ref v :: .int i :: .ref a :: rest) := by
  intro H locs cells slots ls ok hcb hsb hls
  have hA := hC.2.2.2.2.2.2.2.2.1
  obtain ⟨cell, q1, q2, q2', q3, hk7, q4, q5, q6⟩ := ok.1 a _ he
  obtain ⟨cellV, p1, p2, p2', p3, r', p4, p5, p6⟩ := ok.1 v _ hv
  cases p4.symm.trans hc
  have hcls := (hA.1.1 ci r hc).2
  have hRA := (hA.1.2 kd _ (zty_get Z.1 hk7)).2
  rw [hE] at hRA
  obtain ⟨kA, comp, k1, k2, k3, -⟩ := hRA
  obtain ⟨kE, hkE, -⟩ := Vm.findClass_spec k3
  have f3 : (zs Z).vm.assignable (Z.1.1.1 ci) comp = true := by
    rcases hca with hca | hca
    · obtain ⟨c0, t1, f1, f2, f3⟩ := Cond.castable_spec (va_Nw.use (A := za Z) rfl (hA.2.2.2.2.1 _ hca))
      cases hcls.1.symm.trans f1
      cases k3.symm.trans f2
      exact f3
    · rw [← hca] at k3
      cases hcls.1.symm.trans k3
      exact va_assign hcls
  obtain ⟨kC, hkC, -⟩ := hcls.2
  refine W.aast hC.1 hC.2.1 q1 (vnS q2') q2 (by rw [q4]; exact k1) k2 rfl hkE ⟨fun q => hin (Or.inl q), by rw [q5]; exact Nat.not_le.mp fun q => hin (Or.inr q)⟩ p1 (vnS p2') (by rw [p5]; exact hkC) (by rw [p5]; exact f3) rfl rfl d fun H1 e z oq => k H1 _ cells slots ls (ok.put z oq ha (zst_at e q2 q2' (q3 ha) hk7 q4 q5 q6)) hcb hsb hls
/-- new -/
theorem r_new (hC : zC Z cc ret own hh fr lo) {C : String} {T : u_T} {N n9 ci index : Nat} {fs : List Value} (hin : ∀ w ∈ u_ws C T N, w ∈ lw_all) (ty : Nat → FieldType) (hty : ∀ k, k < N → parseFieldDescriptor (T k).2.2.1 = some (ty k)) (hc : zcl[ci]? = some (C, T, N)) (q1 : Cond.classLink own index C ∈ lw_all) (q2 : Cond.instantiable C n9 ∈ lw_all) (q3 : Cond.initialized C ∈ lw_all) (hfs : ∀ j, j < N → defaultValue (ty j) = vp_V fs j) {cb' sb' : Nat} (h1 : cb' + 1 ≤ cb) (h2 : sb' + n9 ≤ sb) (d : decode cc pc = .ok (.new index, 3))
    (k : ∀ a : Nat, h a = none → zA Z.1 a → zW Z (zup h a (.inr (ci, fs))) cb' sb' (pc + 3) L (.ref a :: st)) : zW Z h cb sb pc L st := by
  intro H locs cells slots ls ok hcb hsb hls
  have hts := hC.2.2.2.2.2.1
  have hA := hC.2.2.2.2.2.2.2.2.1
  have hKn := hA.1.1 ci _ hc
  have hrc := hC.2.2.2.2.2.2.2.2.2.2.2.2.2.1
  have hrs := hC.2.2.2.2.2.2.2.2.2.2.2.2.2.2
  refine W.newcK hC.1 hC.2.1 hC.2.2.2.2.1 (hts _ q1) (hts _ q2) (hts _ q3) rfl d (by rw [hrc]; omega) (by rw [hrs]; omega) hKn.2.1 rfl fun H1 kC hkC e1 z1 o1 => ?_
  obtain ⟨cell, p1, p2, p3, p4⟩ := (u_born ty hts hin hKn hkC e1 hty).to hfs
  exact k H.size (ok.1.fresh (Nat.le_refl _)) (Nat.le_trans ok.2.1.1 (Nat.le_refl _)) H1 locs (cells + 1) (slots + n9) ls (ok.new z1 o1 ⟨cell, p1, (by rw [p3]; exact fun q => by cases q), (by rw [p3]; rfl), fun _ => p3, _, hc, p2, p4⟩) (by omega) (by omega) hls
/-- newarray -/
theorem r_newa (hC : zC Z cc ret own hh fr lo) (kd : Nat) {atype : ArrayType} {n : Int32} {N' : Nat} {v0 : Value} (hk : kd < 5) (hty : newarray.typeOf atype = zTy kd) (hv : defaultValue (zTy kd) = v0) (q1 : Cond.arrayClass (newarray.typeOf atype) ∈ lw_all) (hn : n = nI N') (hN : N' < 100000) {cb' sb' : Nat} (h1 : cb' + 1 ≤ cb) (h2 : sb' + N' ≤ sb) (d : decode cc pc = .ok (.newarray atype, 2))
    (k : ∀ a : Nat, h a = none → zA Z.1 a → zW Z (zup h a (.inl (kd, N', fun _ => v0))) cb' sb' (pc + 2) L (.ref a :: rest)) : zW Z h cb sb pc L (.int n :: rest) := by
  subst hv; subst hn
  intro H locs cells slots ls ok hcb hsb hls
  have hts := hC.2.2.2.2.2.1
  have hA := hC.2.2.2.2.2.2.2.2.1
  have hrc := hC.2.2.2.2.2.2.2.2.2.2.2.2.2.1
  have hrs := hC.2.2.2.2.2.2.2.2.2.2.2.2.2.2
  have hbytes : N' * componentBytes (newarray.typeOf atype) ≤ 536870912 := by
    have : componentBytes (newarray.typeOf atype) ≤ 8 := by cases atype <;> decide
    calc N' * componentBytes (newarray.typeOf atype) ≤ N' * 8 := Nat.mul_le_mul_left _ this
      _ ≤ 536870912 := by omega
  refine va_newaK hC.1 hC.2.1 (hts _ q1) rfl d rfl (nI_pos (by omega)) (nI_clamp (by omega)) hbytes (by rw [hrc]; omega) (by rw [hrs]; omega) rfl fun H1 cA e1 z1 o1 hAr hNm => ?_
  have hcA : cA = Z.1.2.1 kd := by
    have h9 := (hA.1.2 kd _ (zty_get Z.1 (by omega))).2
    rw [hty] at hNm
    have h10 : (zs Z).vm.findClass ("[" ++ (zTy kd).toString) = some (Z.1.2.1 kd) := by
      match kd, hk, h9 with
      | 0, _, h9 => exact h9
      | 1, _, h9 => exact h9
      | 2, _, h9 => exact h9
      | 3, _, h9 => exact h9
      | 4, _, h9 => exact h9
    exact Option.some.inj (hNm.symm.trans h10)
  subst hcA
  rw [hty] at e1
  exact k H.size (ok.1.fresh (Nat.le_refl _)) ok.2.1.1 H1 locs (cells + 1) (slots + N') ls (ok.new z1 o1 ⟨_, e1, (fun q => by cases q), rfl, fun _ => rfl, by omega, rfl, arrV_size _ _ _, fun j hj => arrV_read _ _ hj⟩) (by omega) (by omega) hls
/-- anewarray -/
theorem r_newq (hC : zC Z cc ret own hh fr lo) (kd : Nat) {C : String} {index : Nat} {n : Int32} {N' : Nat} (hk : kd < 7) (hty : zTy kd = .object C) (hover : va_AO C (zs Z)) (q1 : Cond.classLink own index C ∈ lw_all) (hn : n = nI N') (hN : N' < 100000) {cb' sb' : Nat} (h1 : cb' + 1 ≤ cb) (h2 : sb' + N' ≤ sb) (d : decode cc pc = .ok (.anewarray index, 3))
    (k : ∀ a : Nat, h a = none → zA Z.1 a → zW Z (zup h a (.inl (kd, N', fun _ => .null))) cb' sb' (pc + 3) L (.ref a :: rest)) : zW Z h cb sb pc L (.int n :: rest) := by
  subst hn
  intro H locs cells slots ls ok hcb hsb hls
  have hts := hC.2.2.2.2.2.1
  have hA := hC.2.2.2.2.2.2.2.2.1
  have hrc := hC.2.2.2.2.2.2.2.2.2.2.2.2.2.1
  have hrs := hC.2.2.2.2.2.2.2.2.2.2.2.2.2.2
  have ec : (nI N').toNatClampNeg = N' := nI_clamp (by omega)
  refine W.anew hC.1 hC.2.1 hC.2.2.2.2.1 (hts _ q1) (va_AO.use hover) rfl d rfl (nI_pos (by omega)) (by rw [ec]; omega) (by rw [hrc]; omega) (by rw [hrs, ec]; omega) fun cA kA comp f1 f2 f3 f4 => ?_
  have hRA := (hA.1.2 kd _ (zty_get Z.1 hk)).2
  rw [hty] at hRA
  obtain ⟨kA', comp', k1, k2, k3, k4⟩ := hRA
  cases f1.symm.trans k4
  generalize hH1 : H.push ({ cls := Z.1.2.1 kd, slots := Array.replicate (nI N').toNatClampNeg .null, vm := .none } : Cell) = H1
  have z1 : H1.size = H.size + 1 := by rw [← hH1, Array.size_push]
  have e1 : H1[H.size]? = some (arrV (Z.1.2.1 kd) (nI N').toNatClampNeg (fun _ => .null)) := by rw [← hH1, Array.getElem?_push_size, ← arrV_new]
  have o1 : ∀ q : Nat, q < H.size → H1[q]? = H[q]? := fun q hq => by rw [← hH1, Array.getElem?_push, if_neg (Nat.ne_of_lt hq)]
  rw [ec] at e1
  exact k H.size (ok.1.fresh (Nat.le_refl _)) ok.2.1.1 H1 locs (cells + 1) (slots + (nI N').toNatClampNeg) ls (ok.new z1 o1 ⟨_, e1, (fun q => by cases q), rfl, fun _ => rfl, hk, rfl, arrV_size _ _ _, fun j hj => arrV_read _ _ hj⟩) (by omega) (by rw [ec]; omega) hls
/-- Object.<init> -/
theorem r_objInit (hC : zC Z cc ret own hh fr lo) {a idx : Nat} (q1 : Cond.methodLink own idx Lib.objectInit ∈ lw_all) (q2 : Cond.instanceMethod Lib.objectInit ∈ lw_all) (q3 : Cond.code Lib.objectInit ⟨#[0xb1]⟩ 1 none ∈ lw_all) (d : decode cc pc = .ok (.invokespecial idx, 3)) (hf : 1 ≤ fr) (hl : 20 ≤ lo) (hst : (rest.map fun v => v.category).sum ≤ 8) (k : zW Z h cb sb (pc + 3) L rest) : zW Z h cb sb pc L (.ref a :: rest) := by
  intro H locs cells slots ls ok hcb hsb hls
  have hts := hC.2.2.2.2.2.1
  have hrf := hC.2.2.2.2.2.2.2.2.2.2.2.1
  have hrl := hC.2.2.2.2.2.2.2.2.2.2.2.2.1
  exact W.objInit hC.1 hC.2.1 hC.2.2.2.2.1 (hts _ q1) (hts _ q2) (hts _ q3) rfl (hls.1.trans hC.2.2.2.1.symm) rfl d (by rw [hrf]; exact hf) (by rw [hrl]; show 2 * 0 + _ + 12 ≤ _; omega) (k H locs cells slots ls ok hcb hsb hls)
theorem zrecv {ci a : Nat} {fs : List Value} {r : vw_C} {H : Heap} {locs : List Loc} (hC : zC Z cc ret own hh fr lo) (ok : zOk Z h H locs) (he : h a = some (.inr (ci, fs))) (hc : zcl[ci]? = some r) : ∃ cell : Cell, H[a]? = some cell ∧ cell.vm.isStatics = false ∧ (zs Z).vm.findClass r.1 = some cell.cls := by
  obtain ⟨cell, q1, q2, q2', q3, r', h1, q4, q5⟩ := ok.1 a _ he
  cases h1.symm.trans hc
  exact ⟨cell, q1, q2', by rw [q4]; exact (hC.2.2.2.2.2.2.2.2.1.1.1 ci r hc).2.1⟩
/-- checkcast, instanceof -/
theorem r_castY (hC : zC Z cc ret own hh fr lo) {ci a index : Nat} {fs : List Value} {r : vw_C} {nm : String} (he : h a = some (.inr (ci, fs))) (hc : zcl[ci]? = some r) (hlink : Cond.classLink own index nm ∈ lw_all) (hca : (r.1, nm) ∈ zCa ∨ r.1 = nm) (d : decode cc pc = .ok (.checkcast index, 3)) (k : zW Z h cb sb (pc + 3) L (.ref a :: rest)) : zW Z h cb sb pc L (.ref a :: rest) := by
  intro H locs cells slots ls ok hcb hsb hls
  have hA := hC.2.2.2.2.2.2.2.2.1
  have hr := zrecv hC ok he hc
  rcases hca with hca | hca
  · exact va_castY hC.1 hC.2.1 hC.2.2.2.2.1 (hC.2.2.2.2.2.1 _ hlink) (hA.2.2.2.2.1 _ hca) hr d (k H locs cells slots ls ok hcb hsb hls)
  · rw [hca] at hr
    exact va_castE hC.1 hC.2.1 hC.2.2.2.2.1 (hC.2.2.2.2.2.1 _ hlink) hr d (k H locs cells slots ls ok hcb hsb hls)
theorem r_castN (hC : zC Z cc ret own hh fr lo) {index : Nat} (d : decode cc pc = .ok (.checkcast index, 3)) (k : zW Z h cb sb (pc + 3) L (.null :: rest)) : zW Z h cb sb pc L (.null :: rest) := zlift (fun _ _ _ _ _ w => lv_castN hC.1 hC.2.1 d w) k
theorem r_instY (hC : zC Z cc ret own hh fr lo) {ci a index : Nat} {fs : List Value} {r : vw_C} {nm : String} (he : h a = some (.inr (ci, fs))) (hc : zcl[ci]? = some r) (hlink : Cond.classLink own index nm ∈ lw_all) (hca : (r.1, nm) ∈ zCa ∨ r.1 = nm) (d : decode cc pc = .ok (.instanceof index, 3)) (k : zW Z h cb sb (pc + 3) L (.int 1 :: rest)) : zW Z h cb sb pc L (.ref a :: rest) := by
  intro H locs cells slots ls ok hcb hsb hls
  have hA := hC.2.2.2.2.2.2.2.2.1
  have hr := zrecv hC ok he hc
  rcases hca with hca | hca
  · exact va_instY hC.1 hC.2.1 hC.2.2.2.2.1 (hC.2.2.2.2.2.1 _ hlink) (hA.2.2.2.2.1 _ hca) hr d (k H locs cells slots ls ok hcb hsb hls)
  · rw [hca] at hr
    exact va_instE hC.1 hC.2.1 hC.2.2.2.2.1 (hC.2.2.2.2.2.1 _ hlink) hr d (k H locs cells slots ls ok hcb hsb hls)
theorem r_instNo (hC : zC Z cc ret own hh fr lo) {ci a index : Nat} {fs : List Value} {r : vw_C} {nm : String} (he : h a = some (.inr (ci, fs))) (hc : zcl[ci]? = some r) (hlink : Cond.classLink own index nm ∈ lw_all) (hca : (r.1, nm) ∈ zNo) (d : decode cc pc = .ok (.instanceof index, 3)) (k : zW Z h cb sb (pc + 3) L (.int 0 :: rest)) : zW Z h cb sb pc L (.ref a :: rest) := by
  intro H locs cells slots ls ok hcb hsb hls
  have hA := hC.2.2.2.2.2.2.2.2.1
  exact va_instNo hC.1 hC.2.1 hC.2.2.2.2.1 (hC.2.2.2.2.2.1 _ hlink) (hA.2.2.2.2.2.1 _ hca) (zrecv hC ok he hc) d (k H locs cells slots ls ok hcb hsb hls)
/-- the text constant -/
theorem r_ldcS (hC : zC Z cc ret own hh fr lo) {tx : String} {index q : Nat} (hZ : vk_R own index tx q (zs Z)) (d : decode cc pc = .ok (.ldc index, 2)) (k : zW Z h cb sb (pc + 2) L (.ref q :: st)) : zW Z h cb sb pc L st := zlift (fun _ _ _ _ _ w => va_ldcS hC.1 hC.2.1 hC.2.2.2.2.1 hZ d w) k
end ZHEAP
