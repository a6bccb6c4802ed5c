section ROWM
variable {g : dwG} {z : Nat × Nat} {M0 : dwSt} {p : Program} {l : Launch} {e : Env} {R : Room} {s : State} {m : MethodId} {args : Array Value} {below : List Frame} {meth : Method} {c : Code} {M : dwSt} {Q : State → Prop} {own : String} {cc : ByteArray} {nL : Nat} {pc : Nat} {ls : Array Slot} {rest : List Value} {ρ : Type} {res : ρ}
theorem dw_any (cx : dwCx g z M0 p l R s m args meth c own cc nL) {H : Heap} {E : String} {cs : List Nat} {v : Nat} (hcs : ∀ ci ∈ cs, (dwCc ci).1 = E ∨ Cond.castable (dwCc ci).1 E ∈ lw_tbl) (hS : dwSat g z M H) (hv : (dwK M v).1 = 0 ∧ cs.contains (dwK M v).2 = true) : va_Any E s H v := by
  obtain ⟨cell, h1, h2, h3⟩ := dw_recv cx hS (b := v) (ci := (dwK M v).2) (Or.inl (Prod.ext hv.1 rfl)) rfl
  obtain ⟨kC, hkC, -⟩ := Vm.findClass_spec h3
  refine ⟨cell, h1, h2, ⟨kC, hkC⟩, fun comp hc => ?_⟩
  rcases hcs _ (List.contains_iff_mem.mp hv.2) with h | h
  · rw [h] at h3
    cases hc.symm.trans h3
    exact va_asg _ _
  · exact vb_asgC (dw_nC cx h) comp _ hc h3
theorem dw_pr {a i v : Nat} : dwR (dwPR M a i (some v)) a = va_up (dwR M a) i (some v) := by
  funext j
  by_cases hj : j = i <;> simp [dwPR, dwR, up2, va_up, hj]
theorem v_sR (cx : dwCx g z M0 p l R s m args meth c own cc nL) {t a : Nat} {E : String} {cs : List Nat} {i : Int32} {v : Nat} {K : dwSt → Option ρ} (ht : (t = 5 ∧ E = "DimpleWells$Season") ∨ (t = 6 ∧ E = "java/lang/Object")) (hcs : ∀ ci ∈ cs, (dwCc ci).1 = E ∨ Cond.castable (dwCc ci).1 E ∈ lw_tbl) (hf : xsR M t cs a i v K = some res) (hdg : decode cc pc = .ok (.aastore, 1)) (k : ∀ M', K M' = some res → dwV g z p l e R s m args below meth c M' Q (F0 m (pc + 1) ls rest)) : dwV g z p l e R s m args below meth c M Q (F0 m pc ls (.ref v :: .int i :: .ref a :: rest)) := by
  intro H locs cells slots hS hL
  unfold xsR at hf
  obtain ⟨⟨hk, hin, hv1, hv2⟩, h2⟩ := ite_e hf
  obtain ⟨hin1, hlt⟩ := dw_in hin
  have ht4 : 4 ≤ t ∧ t ≤ 6 := by rcases ht with h | h <;> omega
  have hcell := (hS.2.2.2.2.2.1 a).2.2.2.2.1 t _ ht4.1 ht4.2 (dw_kd hk)
  obtain ⟨cellV, g1, g3, ⟨kC, hkC⟩, hasg⟩ := dw_any cx hcs hS ⟨hv1, hv2⟩
  have hra : va_RA s (g.2.2.2.1 t) (.object E) := by
    have hra := fun (j : Nat) (q : ClassId × FieldType) hq => ((dw_kn cx).2 j q hq).2
    rcases ht with ⟨h, h'⟩ | ⟨h, h'⟩ <;> subst h <;> subst h'
    · exact hra 4 _ rfl
    · exact hra 5 _ rfl
  obtain ⟨kA, comp, k1, k2, k3, -⟩ := hra
  obtain ⟨kE, hkE, -⟩ := Vm.findClass_spec k3
  refine W.aast cx.1 cx.2.1 hcell (fun q h => by cases h) (fun h => by cases h) k1 k2 rfl hkE ⟨fun q => hin1 (Or.inl q), by rw [arrV_size]; exact hlt⟩ g1 (fun q h => by rw [h] at g3; cases g3) hkC (hasg _ k3) rfl rfl hdg fun H1 e z oq => k _ h2 H1 _ cells slots (hS.upd (a := a) (by rw [hk]; rcases ht with h | h <;> (rw [h.1]; decide)) rfl rfl rfl rfl rfl (fun b hb => ?_) z oq (fun x x' y y' => ?_) (dw_okA4 (t := t) (n := (dwK M a).2) ht4.1 ht4.2 (dw_kd hk) ?_)) (fun q hq => ?_)
  · refine ⟨rfl, rfl, ?_⟩
    funext j
    simp [dwPR, dwR, up2, hb]
  · cases hcell.symm.trans y
    cases e.symm.trans y'
    exact k2_slotsz _ _ _
  · rw [e, arrV_store, dw_pr]
    congr 2
    funext j
    unfold updV
    by_cases hj : j = i.toNatClampNeg
    · simp [hj, va_up, va_rf]
    · simp [hj, va_up]
  · rcases List.mem_append.mp hq with h9 | h9
    · exact hL q h9
    · rw [List.mem_singleton.mp h9]
      exact (hS.2.2.2.1 a (by rw [hk]; rcases ht with h | h <;> (rw [h.1]; decide))).1
/-! casts -/
theorem v_cast (cx : dwCx g z M0 p l R s m args meth c own cc nL) {index a : Nat} {nm : String} {cs : List Nat} {K : Option ρ} (hf : xrc M a cs K = some res) (hlk : Cond.classLink own index nm ∈ lw_all) (hcs : ∀ ci ∈ cs, (dwCc ci).1 = nm ∨ Cond.castable (dwCc ci).1 nm ∈ lw_tbl) (hdg : decode cc pc = .ok (.checkcast index, 3)) (k : K = some res → dwV g z p l e R s m args below meth c M Q (F0 m (pc + 3) ls (.ref a :: rest))) : dwV g z p l e R s m args below meth c M Q (F0 m pc ls (.ref a :: rest)) := by
  intro H locs cells slots hS hL
  obtain ⟨hv, h2⟩ := xrc_e hf
  have hr := dw_recv cx hS (b := a) (ci := (dwK M a).2) (Or.inl (Prod.ext hv.1 rfl)) rfl
  rcases hcs _ (List.contains_iff_mem.mp hv.2) with h | h
  · exact va_castE cx.1 cx.2.1 cx.2.2.2.2.1 (cx.2.2.2.2.2.1 _ hlk) (h ▸ hr) hdg (k h2 H locs cells slots hS hL)
  · exact va_castY cx.1 cx.2.1 cx.2.2.2.2.1 (cx.2.2.2.2.2.1 _ hlk) (dw_nC cx h) hr hdg (k h2 H locs cells slots hS hL)
theorem dw_ist {b ci : Nat} {X : Option ρ} (hf : xist M b [(0, ci), (10, ci)] X = some res) : (dwK M b = (0, ci) ∨ dwK M b = (10, ci)) ∧ X = some res := by
  unfold xist at hf
  obtain ⟨h1, h2⟩ := ite_e hf
  refine ⟨?_, h2⟩
  have := List.contains_iff_mem.mp h1
  simpa using this
theorem v_castS (cx : dwCx g z M0 p l R s m args meth c own cc nL) {index a ci : Nat} {nm : String} {K : Option ρ} (hf : xist M a [(0, ci), (10, ci)] K = some res) (hlk : Cond.classLink own index nm ∈ lw_all) (hC : (dwCc ci).1 = nm) (hdg : decode cc pc = .ok (.checkcast index, 3)) (k : K = some res → dwV g z p l e R s m args below meth c M Q (F0 m (pc + 3) ls (.ref a :: rest))) : dwV g z p l e R s m args below meth c M Q (F0 m pc ls (.ref a :: rest)) := by
  intro H locs cells slots hS hL
  obtain ⟨hv, h2⟩ := dw_ist hf
  exact va_castE cx.1 cx.2.1 cx.2.2.2.2.1 (cx.2.2.2.2.2.1 _ hlk) (dw_recv cx hS hv hC) hdg (k h2 H locs cells slots hS hL)
theorem v_castB (cx : dwCx g z M0 p l R s m args meth c own cc nL) {index a : Nat} {K : Option ρ} (hf : xbar M a K = some res) (hlk : Cond.classLink own index "[B" ∈ lw_all) (hdg : decode cc pc = .ok (.checkcast index, 3)) (k : K = some res → dwV g z p l e R s m args below meth c M Q (F0 m (pc + 3) ls (.ref a :: rest))) : dwV g z p l e R s m args below meth c M Q (F0 m pc ls (.ref a :: rest)) := by
  intro H locs cells slots hS hL
  unfold xbar at hf
  obtain ⟨hk, h2⟩ := ite_e hf
  have hcell := (hS.2.2.2.2.2.1 a).2.2.1 _ (dw_kd hk)
  have hfc : s.vm.findClass "[B" = some (g.2.2.2.1 2) := ((dw_kn cx).2 1 _ rfl).2
  exact va_castE cx.1 cx.2.1 cx.2.2.2.2.1 (cx.2.2.2.2.2.1 _ hlk) ⟨_, hcell, rfl, hfc⟩ hdg (k h2 H locs cells slots hS hL)
theorem v_instS (cx : dwCx g z M0 p l R s m args meth c own cc nL) {index a ci : Nat} {nm : String} {K : Option ρ} (hf : xist M a [(0, ci), (10, ci)] K = some res) (hlk : Cond.classLink own index nm ∈ lw_all) (hC : (dwCc ci).1 = nm) (hdg : decode cc pc = .ok (.instanceof index, 3)) (k : K = some res → dwV g z p l e R s m args below meth c M Q (F0 m (pc + 3) ls (.int 1 :: rest))) : dwV g z p l e R s m args below meth c M Q (F0 m pc ls (.ref a :: rest)) := by
  intro H locs cells slots hS hL
  obtain ⟨hv, h2⟩ := dw_ist hf
  exact va_instE cx.1 cx.2.1 cx.2.2.2.2.1 (cx.2.2.2.2.2.1 _ hlk) (dw_recv cx hS hv hC) hdg (k h2 H locs cells slots hS hL)
/-! constants -/
theorem v_ldcS (cx : dwCx g z M0 p l R s m args meth c own cc nL) {index kx : Nat} {tx : String} (hm : (kx, own, index, tx) ∈ dwStr) (hdg : decode cc pc = .ok (.ldc index, 2)) (k : dwV g z p l e R s m args below meth c M Q (F0 m (pc + 2) ls (.ref (dwX M kx) :: rest))) : dwV g z p l e R s m args below meth c M Q (F0 m pc ls rest) := by
  intro H locs cells slots hS hL
  have hX := cx.2.2.2.2.2.2.1.2.2.2.2.2 _ hm
  rw [hS.2.2.2.2.2.2.2.2.2.2] at k
  exact va_ldcS cx.1 cx.2.1 cx.2.2.2.2.1 (vk_R.warm cx.2.2.2.2.2.2.2.1 hX) hdg (k H locs cells slots hS hL)
theorem v_ldcM (cx : dwCx g z M0 p l R s m args meth c own cc nL) {index : Nat} (hlk : Cond.classLink own index "[Ljava/lang/Object;" ∈ lw_all) (hdg : decode cc pc = .ok (.ldc index, 2)) (k : dwV g z p l e R s m args below meth c M Q (F0 m (pc + 2) ls (.ref (dwX M 2) :: rest))) : dwV g z p l e R s m args below meth c M Q (F0 m pc ls rest) := by
  intro H locs cells slots hS hL
  have hX := cx.2.2.2.2.2.2.1.2.2.2.2.1
  rw [hS.2.2.2.2.2.2.2.2.2.2] at k
  exact va_ldcM cx.1 cx.2.1 cx.2.2.2.2.1 (cx.2.2.2.2.2.1 _ hlk) (va_Mi.moved cx.2.2.2.2.2.2.2.1.alike hX) hdg (k H locs cells slots hS hL)
theorem v_getC (cx : dwCx g z M0 p l R s m args meth c own cc nL) {index a : Nat} {K : Nat → Option ρ} {Lo Ll : Nat} (hf : xqar M a (K (dwX M 2)) = some res) (hlk : Cond.methodLink own index ⟨"java/lang/Object", "getClass", "()Ljava/lang/Class;"⟩ ∈ lw_all) (hdc : Cond.declares ⟨"java/lang/Object", "getClass", "()Ljava/lang/Class;"⟩ ∈ lw_tbl) (hse : Cond.selects "[Ljava/lang/Object;" ⟨"java/lang/Object", "getClass", "()Ljava/lang/Class;"⟩ ⟨"java/lang/Object", "getClass", "()Ljava/lang/Class;"⟩ ∈ lw_all) (hin : Cond.instanceMethod ⟨"java/lang/Object", "getClass", "()Ljava/lang/Class;"⟩ ∈ lw_all) (hna : Cond.native ⟨"java/lang/Object", "getClass", "()Ljava/lang/Class;"⟩ ∈ lw_all)
    (hR1 : R.frames = Lo + 1) (hR2 : R.locals = Ll + 40) (hls : ls.size = nL) (hrest : (rest.map fun v => v.category).sum ≤ 8) (hdg : decode cc pc = .ok (.invokevirtual index, 3)) (k : K (dwX M 2) = some res → dwV g z p l e R s m args below meth c M Q (F0 m (pc + 3) ls (.ref (dwX M 2) :: rest))) : dwV g z p l e R s m args below meth c M Q (F0 m pc ls (.ref a :: rest)) := by
  intro H locs cells slots hS hL
  unfold xqar at hf
  obtain ⟨hk, h2⟩ := ite_e hf
  have hts := cx.2.2.2.2.2.1
  have hX := cx.2.2.2.2.2.2.1.2.2.2.2.1
  rw [hS.2.2.2.2.2.2.2.2.2.2] at k h2
  have hcell := (hS.2.2.2.2.2.1 a).2.2.2.2.1 6 _ (by decide) (by decide) (dw_kd hk)
  have hfc : s.vm.findClass "[Ljava/lang/Object;" = some (g.2.2.2.1 6) := va_nmO ((dw_kn cx).2 5 _ rfl).2 (by decide)
  refine va_getC cx.1 cx.2.1 (by rw [cx.2.2.1]; exact hls.symm) cx.2.2.2.2.1 (hts _ hlk) (va_Nw.use rfl (dw_nD cx hdc)) (hts _ hse) (hts _ hin) (hts _ hna) (va_Mi.moved cx.2.2.2.2.2.2.2.1.alike hX) ⟨_, hcell, rfl, hfc⟩ (by omega) (by omega) hdg (k h2 H locs cells slots hS hL)
theorem W.gets9 (cx : dwCx g z M0 p l R s m args meth c own cc nL) {H : Heap} {locs : List Loc} {cells slots index : Nat} {C n d : String} {v : Value} (hS : dwSat g z M H) (hL : ∀ q ∈ locs, g.1.heap.size ≤ q.base) (hZ : va_Z C n d v (fun q => g.1.heap.size ≤ q) s s.heap) (hlk : Cond.fieldLink own index C n d ∈ lw_all) (hdg : decode cc pc = .ok (.getstatic index, 3)) (k : W p l e R s m args below meth c H locs cells slots Q (F0 m (pc + 3) ls (v :: rest))) : W p l e R s m args below meth c H locs cells slots Q (F0 m pc ls rest) := by
  obtain ⟨cf, kf, fi, f, a, cell, h1, h2, h3, h4, h5, h6, h7, h8⟩ := hZ
  have ha : a < g.1.heap.size := Nat.lt_of_not_le h8
  have hS0 := cx.2.2.2.2.2.2.2.2.1
  exact W.gets cx.1 cx.2.1 cx.2.2.2.2.1 (cx.2.2.2.2.2.1 _ hlk) h1 h2 h3 h4 (by rw [hS.2.2.1 a ha, ← hS0.2.2.1 a ha]; exact h5) (fun e => by rw [e] at h6; cases h6) h7 rfl hdg k
theorem v_gsI (cx : dwCx g z M0 p l R s m args meth c own cc nL) {index : Nat} {C n d : String} {v : Int32} (hl : Cond.laysStatic C n d ∈ lw_tbl) (hini : Cond.initialized C ∈ lw_tbl) (hv : ∀ b0 : Addr, (Jvm.Cond.and given_1 narrow_1).before #[Value.ref b0] g.1 = true → (Cond.eq (.static C n d) (.int v)).before #[Value.ref b0] g.1 = true) (hlk : Cond.fieldLink own index C n d ∈ lw_all) (hdg : decode cc pc = .ok (.getstatic index, 3)) (k : dwV g z p l e R s m args below meth c M Q (F0 m (pc + 3) ls (.int v :: rest))) : dwV g z p l e R s m args below meth c M Q (F0 m pc ls rest) := by
  intro H locs cells slots hS hL
  obtain ⟨⟨b0, w0, hn⟩, -⟩ := cx.2.2.2.2.2.2.1
  have hZ : va_Z C n d (.int v) (fun q => g.1.heap.size ≤ q) g.1 g.1.heap := va_Zof (w0 _ hl) (w0 _ hini) (va_eqi (hv b0 hn)) (fun a h q => by omega)
  have hS0 := cx.2.2.2.2.2.2.2.2.1
  have hZs : va_Z C n d (.int v) (fun q => g.1.heap.size ≤ q) s s.heap := va_Z.kept (va_Z.moved cx.2.2.2.2.2.2.2.1.alike hZ) (fun a h _ => hS0.2.2.1 a h)
  exact W.gets9 cx hS hL hZs hlk hdg (k H locs cells slots hS hL)
theorem v_gsN (cx : dwCx g z M0 p l R s m args meth c own cc nL) {index kx : Nat} {C n d : String} (hl : dwXs g → va_Z C n d (va_rf (dwOp (g.2.2.2.2 kx))) (fun q => g.1.heap.size ≤ q) g.1 g.1.heap) (hlk : Cond.fieldLink own index C n d ∈ lw_all) (hdg : decode cc pc = .ok (.getstatic index, 3)) (k : dwV g z p l e R s m args below meth c M Q (F0 m (pc + 3) ls (va_rf (dwOp (dwX M kx)) :: rest))) : dwV g z p l e R s m args below meth c M Q (F0 m pc ls rest) := by
  intro H locs cells slots hS hL
  have hZ := hl cx.2.2.2.2.2.2.1.2.2
  have hS0 := cx.2.2.2.2.2.2.2.2.1
  have hZs := va_Z.kept (va_Z.moved cx.2.2.2.2.2.2.2.1.alike hZ) (fun a h _ => hS0.2.2.1 a h)
  rw [hS.2.2.2.2.2.2.2.2.2.2] at k
  exact W.gets9 cx hS hL hZs hlk hdg (k H locs cells slots hS hL)
/-! if_acmp -/
theorem v_acmp_eq (cx : dwCx g z M0 p l R s m args meth c own cc nL) {x y : Nat} {off : Int} {tgt : Nat} {X Y : Option ρ} (hf : (if x = y then X else Y) = some res) (hdg : decode cc pc = .ok (.if_acmp .eq off, 3)) (ht : (pc : Int) + off = (tgt : Int)) (k1 : X = some res → dwV g z p l e R s m args below meth c M Q (F0 m tgt ls rest)) (k2 : Y = some res → dwV g z p l e R s m args below meth c M Q (F0 m (pc + 3) ls rest)) : dwV g z p l e R s m args below meth c M Q (F0 m pc ls (.ref y :: .ref x :: rest)) := by
  intro H locs cells slots hS hL
  by_cases h : x = y
  · rw [if_pos h] at hf
    exact lv_acmp_eq cx.1 cx.2.1 (rx := some x) (ry := some y) hdg ht (fun _ => k1 hf H locs cells slots hS hL) (fun q => absurd (congrArg some h) q)
  · rw [if_neg h] at hf
    exact lv_acmp_eq cx.1 cx.2.1 (rx := some x) (ry := some y) hdg ht (fun q => absurd (Option.some.inj q) h) (fun _ => k2 hf H locs cells slots hS hL)
theorem v_acmp_ne (cx : dwCx g z M0 p l R s m args meth c own cc nL) {x y : Nat} {off : Int} {tgt : Nat} {X Y : Option ρ} (hf : (if x = y then X else Y) = some res) (hdg : decode cc pc = .ok (.if_acmp .ne off, 3)) (ht : (pc : Int) + off = (tgt : Int)) (k1 : Y = some res → dwV g z p l e R s m args below meth c M Q (F0 m tgt ls rest)) (k2 : X = some res → dwV g z p l e R s m args below meth c M Q (F0 m (pc + 3) ls rest)) : dwV g z p l e R s m args below meth c M Q (F0 m pc ls (.ref y :: .ref x :: rest)) := by
  intro H locs cells slots hS hL
  by_cases h : x = y
  · rw [if_pos h] at hf
    exact lv_acmp_ne cx.1 cx.2.1 (rx := some x) (ry := some y) hdg ht (fun q => absurd (congrArg some h) q) (fun _ => k2 hf H locs cells slots hS hL)
  · rw [if_neg h] at hf
    exact lv_acmp_ne cx.1 cx.2.1 (rx := some x) (ry := some y) hdg ht (fun _ => k1 hf H locs cells slots hS hL) (fun q => absurd (Option.some.inj q) h)
theorem v_copyI (cx : dwCx g z M0 p l R s m args meth c own cc nL) {index a b : Nat} {sp dp n : Int32} {Lo Ll : Nat} {K : dwSt → Option ρ} (hf : xcpy M 1 a sp b dp n K = some res) (hlk : Cond.methodLink own index arraycopyName ∈ lw_all) (hna : Cond.native arraycopyName ∈ lw_all) (hst : Cond.static arraycopyName ∈ lw_all) (hini : Cond.initialized "java/lang/System" ∈ lw_all) (hR1 : R.frames = Lo + 1) (hR2 : R.locals = Ll + 40) (hls : ls.size = nL) (hrest : (rest.map fun v => v.category).sum ≤ 8) (hdg : decode cc pc = .ok (.invokestatic index, 3)) (k : ∀ M', K M' = some res → dwV g z p l e R s m args below meth c M' Q (F0 m (pc + 3) ls rest)) : dwV g z p l e R s m args below meth c M Q (F0 m pc ls (.int n :: .int dp :: .ref b :: .int sp :: .ref a :: rest)) := by
  intro H locs cells slots hS hL
  unfold xcpy at hf
  obtain ⟨⟨⟨hka, hkb⟩, ⟨h1, h2, h3⟩, h4, h5, hel⟩, hf2⟩ := ite_e hf
  have hts := cx.2.2.2.2.2.1
  have nn : ∀ z : Int32, 0 ≤ z.toInt → z.toInt = (z.toNatClampNeg : Int) := by
    intro z hz
    show z.toInt = ((z.toInt.toNat : Nat) : Int)
    omega
  have lt0 : ∀ z : Int32, 0 ≤ z.toInt → ¬ z < 0 := by
    intro z hz
    rw [Int32.lt_iff_toInt_lt, Int32.toInt_zero]
    omega
  have e1 := nn _ h1
  have e2 := nn _ h2
  have e3 := nn _ h3
  have hc0 := (hS.2.2.2.2.2.1 a).2.1 _ (dw_kd hka)
  have hc1 := (hS.2.2.2.2.2.1 b).2.1 _ (dw_kd hkb)
  have hao := dw_ao cx (t := 0) rfl
  obtain ⟨-, k0, hk0, cm0, hkk0⟩ := hao (dwK M a).2 (fun j => .int (dwI M a j))
  obtain ⟨-, k1, hk1, cm1, hkk1⟩ := hao (dwK M b).2 (fun j => .int (dwI M b j))
  have hnw : nativeFrameWords "java/lang/System" "arraycopy" 5 + 11 ≤ 32 := by decide
  have hsp : sp.toNatClampNeg + n.toNatClampNeg ≤ (dwK M a).2 := by omega
  intro T hT X
  obtain ⟨vm', X', step⟩ := X.arraycopy cx.1 cx.2.2.2.2.1 (hts _ hlk) (hts _ hna) (hts _ hst) (hts _ hini) (src := a) (dst := b) (cs := arrV (g.2.2.2.1 1) (dwK M a).2 (fun j => .int (dwI M a j))) (cd := arrV (g.2.2.2.1 1) (dwK M b).2 (fun j => .int (dwI M b j))) (srcPos := sp) (destPos := dp) (n := n) (by rw [hT]; exact hc0) (by rw [hT]; exact hc1)
    (fun _ h => by cases h) (fun _ h => by cases h) (fun h => by cases h) (fun h => by cases h) hk0 hk1 hkk0 hkk1 (by simp [refKind]) (lt0 _ h1) (lt0 _ h2) (lt0 _ h3)
    (by rw [arrV_size, e1, e3]; omega)
    (by rw [arrV_size, e2, e3]; omega)
    (fun vm₁ hal i hi => by
      have e : (arrV (g.2.2.2.1 1) (dwK M a).2 (fun j => .int (dwI M a j))).slots.getD (sp.toNatClampNeg + i) .null = .int (dwI M a (sp.toNatClampNeg + i)) := by
        rw [Array.getD_eq_getD_getElem?, arrV_read _ _ (by omega)]
        rfl
      rw [e]
      exact ⟨rfl, trivial⟩)
    (g := F0 m pc ls (.int n :: .int dp :: .ref b :: .int sp :: .ref a :: rest)) rfl (by rw [cx.2.2.1]; exact hls) (rest := rest) rfl (by rw [cx.2.1]; exact hdg) (by omega) (by show 2 * 0 + _ + _ ≤ _; omega)
  have ec : copied (arrV (g.2.2.2.1 1) (dwK M a).2 (fun j => .int (dwI M a j))) (arrV (g.2.2.2.1 1) (dwK M b).2 (fun j => .int (dwI M b j))) sp dp n = arrV (g.2.2.2.1 1) (dwK M b).2 (fun j => .int (va_cpy (dwI M a) (dwI M b) sp.toNatClampNeg dp.toNatClampNeg n.toNatClampNeg j)) := va_copied (fun z => .int z) _ _ (dwI M a) (dwI M b) hsp
  rw [ec] at X' step
  have hlb : b < H.size := (Array.getElem?_eq_some_iff.mp hc1).1
  have hheap : ((T.setVm vm').setCell b (arrV (g.2.2.2.1 1) (dwK M b).2 (fun j => .int (va_cpy (dwI M a) (dwI M b) sp.toNatClampNeg dp.toNatClampNeg n.toNatClampNeg j)))).heap = H.setIfInBounds b (arrV (g.2.2.2.1 1) (dwK M b).2 (fun j => .int (va_cpy (dwI M a) (dwI M b) sp.toNatClampNeg dp.toNatClampNeg n.toNatClampNeg j))) := by rw [← hT]; rfl
  have oq : ∀ q : Nat, q ≠ b → (H.setIfInBounds b (arrV (g.2.2.2.1 1) (dwK M b).2 (fun j => .int (va_cpy (dwI M a) (dwI M b) sp.toNatClampNeg dp.toNatClampNeg n.toNatClampNeg j))))[q]? = H[q]? := fun q hq => by simp [Array.getElem?_setIfInBounds, Ne.symm hq]
  have hbb : (H.setIfInBounds b (arrV (g.2.2.2.1 1) (dwK M b).2 (fun j => .int (va_cpy (dwI M a) (dwI M b) sp.toNatClampNeg dp.toNatClampNeg n.toNatClampNeg j))))[b]? = some (arrV (g.2.2.2.1 1) (dwK M b).2 (fun j => .int (va_cpy (dwI M a) (dwI M b) sp.toNatClampNeg dp.toNatClampNeg n.toNatClampNeg j))) := by simp [Array.getElem?_setIfInBounds, hlb]
  have hb8 : (dwK M b).1 < 8 := by rw [hkb]; decide
  have hup : dwSat g z (M.1, va_up M.2.1 b (va_cpy (dwI M a) (dwI M b) sp.toNatClampNeg dp.toNatClampNeg n.toNatClampNeg), M.2.2) (H.setIfInBounds b (arrV (g.2.2.2.1 1) (dwK M b).2 (fun j => .int (va_cpy (dwI M a) (dwI M b) sp.toNatClampNeg dp.toNatClampNeg n.toNatClampNeg j)))) := by
    refine hS.upd (a := b) hb8 rfl rfl rfl rfl rfl (fun x hx => ?_) (by simp) oq (fun x x' y y' => ?_) (dw_okA1 (n := (dwK M b).2) (dw_kd hkb) ?_)
    · exact ⟨by first | rfl | (simp [dwI, dwL, dwR, va_up, hx]; done), by first | rfl | (simp [dwI, dwL, dwR, va_up, hx]; done), by first | rfl | (simp [dwI, dwL, dwR, va_up, hx]; done)⟩
    · cases hc1.symm.trans y
      cases hbb.symm.trans y'
      rw [arrV_size, arrV_size]
    · rw [hbb]
      congr 2
      funext j
      simp [dwI, va_up]
  have hlo : ∀ (f : Value × Nat → Loc) (l : List (Value × Nat)), (∀ i, (f i).base = b) → ∀ q ∈ locs ++ l.map f, g.1.heap.size ≤ q.base := by
    intro f l hfb q hq
    rcases List.mem_append.mp hq with h9 | h9
    · exact hL q h9
    · obtain ⟨z9, -, hz⟩ := List.mem_map.mp h9
      rw [← hz, hfb]
      exact (hS.2.2.2.1 b hb8).1
  obtain ⟨t, a1, b1⟩ := k _ hf2 _ _ cells slots hup (hlo _ _ (fun _ => rfl)) _ hheap X'
  exact ⟨t, step t a1, b1⟩
theorem v_copyB (cx : dwCx g z M0 p l R s m args meth c own cc nL) {index a b : Nat} {sp dp n : Int32} {Lo Ll : Nat} {K : dwSt → Option ρ} (hf : xcpy M 2 a sp b dp n K = some res) (hlk : Cond.methodLink own index arraycopyName ∈ lw_all) (hna : Cond.native arraycopyName ∈ lw_all) (hst : Cond.static arraycopyName ∈ lw_all) (hini : Cond.initialized "java/lang/System" ∈ lw_all) (hR1 : R.frames = Lo + 1) (hR2 : R.locals = Ll + 40) (hls : ls.size = nL) (hrest : (rest.map fun v => v.category).sum ≤ 8) (hdg : decode cc pc = .ok (.invokestatic index, 3)) (k : ∀ M', K M' = some res → dwV g z p l e R s m args below meth c M' Q (F0 m (pc + 3) ls rest)) : dwV g z p l e R s m args below meth c M Q (F0 m pc ls (.int n :: .int dp :: .ref b :: .int sp :: .ref a :: rest)) := by
  intro H locs cells slots hS hL
  unfold xcpy at hf
  obtain ⟨⟨⟨hka, hkb⟩, ⟨h1, h2, h3⟩, h4, h5, hel⟩, hf2⟩ := ite_e hf
  have hts := cx.2.2.2.2.2.1
  have nn : ∀ z : Int32, 0 ≤ z.toInt → z.toInt = (z.toNatClampNeg : Int) := by
    intro z hz
    show z.toInt = ((z.toInt.toNat : Nat) : Int)
    omega
  have lt0 : ∀ z : Int32, 0 ≤ z.toInt → ¬ z < 0 := by
    intro z hz
    rw [Int32.lt_iff_toInt_lt, Int32.toInt_zero]
    omega
  have e1 := nn _ h1
  have e2 := nn _ h2
  have e3 := nn _ h3
  have hc0 := (hS.2.2.2.2.2.1 a).2.2.1 _ (dw_kd hka)
  have hc1 := (hS.2.2.2.2.2.1 b).2.2.1 _ (dw_kd hkb)
  have hao := dw_ao cx (t := 1) rfl
  obtain ⟨-, k0, hk0, cm0, hkk0⟩ := hao (dwK M a).2 (fun j => .int (dwI M a j))
  obtain ⟨-, k1, hk1, cm1, hkk1⟩ := hao (dwK M b).2 (fun j => .int (dwI M b j))
  have hnw : nativeFrameWords "java/lang/System" "arraycopy" 5 + 11 ≤ 32 := by decide
  have hsp : sp.toNatClampNeg + n.toNatClampNeg ≤ (dwK M a).2 := by omega
  intro T hT X
  obtain ⟨vm', X', step⟩ := X.arraycopy cx.1 cx.2.2.2.2.1 (hts _ hlk) (hts _ hna) (hts _ hst) (hts _ hini) (src := a) (dst := b) (cs := arrV (g.2.2.2.1 2) (dwK M a).2 (fun j => .int (dwI M a j))) (cd := arrV (g.2.2.2.1 2) (dwK M b).2 (fun j => .int (dwI M b j))) (srcPos := sp) (destPos := dp) (n := n) (by rw [hT]; exact hc0) (by rw [hT]; exact hc1)
    (fun _ h => by cases h) (fun _ h => by cases h) (fun h => by cases h) (fun h => by cases h) hk0 hk1 hkk0 hkk1 (by simp [refKind]) (lt0 _ h1) (lt0 _ h2) (lt0 _ h3)
    (by rw [arrV_size, e1, e3]; omega)
    (by rw [arrV_size, e2, e3]; omega)
    (fun vm₁ hal i hi => by
      have e : (arrV (g.2.2.2.1 2) (dwK M a).2 (fun j => .int (dwI M a j))).slots.getD (sp.toNatClampNeg + i) .null = .int (dwI M a (sp.toNatClampNeg + i)) := by
        rw [Array.getD_eq_getD_getElem?, arrV_read _ _ (by omega)]
        rfl
      rw [e]
      refine ⟨?_, trivial⟩
      rcases hel with h | h
      · exact absurd h (by decide)
      · exact (dw_bn (h i hi)).2)
    (g := F0 m pc ls (.int n :: .int dp :: .ref b :: .int sp :: .ref a :: rest)) rfl (by rw [cx.2.2.1]; exact hls) (rest := rest) rfl (by rw [cx.2.1]; exact hdg) (by omega) (by show 2 * 0 + _ + _ ≤ _; omega)
  have ec : copied (arrV (g.2.2.2.1 2) (dwK M a).2 (fun j => .int (dwI M a j))) (arrV (g.2.2.2.1 2) (dwK M b).2 (fun j => .int (dwI M b j))) sp dp n = arrV (g.2.2.2.1 2) (dwK M b).2 (fun j => .int (va_cpy (dwI M a) (dwI M b) sp.toNatClampNeg dp.toNatClampNeg n.toNatClampNeg j)) := va_copied (fun z => .int z) _ _ (dwI M a) (dwI M b) hsp
  rw [ec] at X' step
  have hlb : b < H.size := (Array.getElem?_eq_some_iff.mp hc1).1
  have hheap : ((T.setVm vm').setCell b (arrV (g.2.2.2.1 2) (dwK M b).2 (fun j => .int (va_cpy (dwI M a) (dwI M b) sp.toNatClampNeg dp.toNatClampNeg n.toNatClampNeg j)))).heap = H.setIfInBounds b (arrV (g.2.2.2.1 2) (dwK M b).2 (fun j => .int (va_cpy (dwI M a) (dwI M b) sp.toNatClampNeg dp.toNatClampNeg n.toNatClampNeg j))) := by rw [← hT]; rfl
  have oq : ∀ q : Nat, q ≠ b → (H.setIfInBounds b (arrV (g.2.2.2.1 2) (dwK M b).2 (fun j => .int (va_cpy (dwI M a) (dwI M b) sp.toNatClampNeg dp.toNatClampNeg n.toNatClampNeg j))))[q]? = H[q]? := fun q hq => by simp [Array.getElem?_setIfInBounds, Ne.symm hq]
  have hbb : (H.setIfInBounds b (arrV (g.2.2.2.1 2) (dwK M b).2 (fun j => .int (va_cpy (dwI M a) (dwI M b) sp.toNatClampNeg dp.toNatClampNeg n.toNatClampNeg j))))[b]? = some (arrV (g.2.2.2.1 2) (dwK M b).2 (fun j => .int (va_cpy (dwI M a) (dwI M b) sp.toNatClampNeg dp.toNatClampNeg n.toNatClampNeg j))) := by simp [Array.getElem?_setIfInBounds, hlb]
  have hb8 : (dwK M b).1 < 8 := by rw [hkb]; decide
  have hup : dwSat g z (M.1, va_up M.2.1 b (va_cpy (dwI M a) (dwI M b) sp.toNatClampNeg dp.toNatClampNeg n.toNatClampNeg), M.2.2) (H.setIfInBounds b (arrV (g.2.2.2.1 2) (dwK M b).2 (fun j => .int (va_cpy (dwI M a) (dwI M b) sp.toNatClampNeg dp.toNatClampNeg n.toNatClampNeg j)))) := by
    refine hS.upd (a := b) hb8 rfl rfl rfl rfl rfl (fun x hx => ?_) (by simp) oq (fun x x' y y' => ?_) (dw_okA2 (n := (dwK M b).2) (dw_kd hkb) ?_)
    · exact ⟨by first | rfl | (simp [dwI, dwL, dwR, va_up, hx]; done), by first | rfl | (simp [dwI, dwL, dwR, va_up, hx]; done), by first | rfl | (simp [dwI, dwL, dwR, va_up, hx]; done)⟩
    · cases hc1.symm.trans y
      cases hbb.symm.trans y'
      rw [arrV_size, arrV_size]
    · rw [hbb]
      congr 2
      funext j
      simp [dwI, va_up]
  have hlo : ∀ (f : Value × Nat → Loc) (l : List (Value × Nat)), (∀ i, (f i).base = b) → ∀ q ∈ locs ++ l.map f, g.1.heap.size ≤ q.base := by
    intro f l hfb q hq
    rcases List.mem_append.mp hq with h9 | h9
    · exact hL q h9
    · obtain ⟨z9, -, hz⟩ := List.mem_map.mp h9
      rw [← hz, hfb]
      exact (hS.2.2.2.1 b hb8).1
  obtain ⟨t, a1, b1⟩ := k _ hf2 _ _ cells slots hup (hlo _ _ (fun _ => rfl)) _ hheap X'
  exact ⟨t, step t a1, b1⟩
theorem v_copyR (cx : dwCx g z M0 p l R s m args meth c own cc nL) {index a b : Nat} {sp dp n : Int32} {Lo Ll : Nat} {K : dwSt → Option ρ} {cs : List Nat} (hcs : ∀ ci ∈ cs, (dwCc ci).1 = "java/lang/Object" ∨ Cond.castable (dwCc ci).1 "java/lang/Object" ∈ lw_tbl) (hf : xcpyR M cs a sp b dp n K = some res) (hlk : Cond.methodLink own index arraycopyName ∈ lw_all) (hna : Cond.native arraycopyName ∈ lw_all) (hst : Cond.static arraycopyName ∈ lw_all) (hini : Cond.initialized "java/lang/System" ∈ lw_all) (hR1 : R.frames = Lo + 1) (hR2 : R.locals = Ll + 40) (hls : ls.size = nL) (hrest : (rest.map fun v => v.category).sum ≤ 8) (hdg : decode cc pc = .ok (.invokestatic index, 3)) (k : ∀ M', K M' = some res → dwV g z p l e R s m args below meth c M' Q (F0 m (pc + 3) ls rest)) : dwV g z p l e R s m args below meth c M Q (F0 m pc ls (.int n :: .int dp :: .ref b :: .int sp :: .ref a :: rest)) := by
  intro H locs cells slots hS hL
  unfold xcpyR at hf
  obtain ⟨⟨⟨hka, hkb⟩, ⟨h1, h2, h3⟩, h4, h5, hel⟩, hf2⟩ := ite_e hf
  have hts := cx.2.2.2.2.2.1
  have nn : ∀ z : Int32, 0 ≤ z.toInt → z.toInt = (z.toNatClampNeg : Int) := by
    intro z hz
    show z.toInt = ((z.toInt.toNat : Nat) : Int)
    omega
  have lt0 : ∀ z : Int32, 0 ≤ z.toInt → ¬ z < 0 := by
    intro z hz
    rw [Int32.lt_iff_toInt_lt, Int32.toInt_zero]
    omega
  have e1 := nn _ h1
  have e2 := nn _ h2
  have e3 := nn _ h3
  have hc0 := (hS.2.2.2.2.2.1 a).2.2.2.2.1 6 _ (by decide) (by decide) (dw_kd hka)
  have hc1 := (hS.2.2.2.2.2.1 b).2.2.2.2.1 6 _ (by decide) (by decide) (dw_kd hkb)
  have hao := dw_ao cx (t := 5) rfl
  obtain ⟨-, k0, hk0, cm0, hkk0⟩ := hao (dwK M a).2 (fun j => va_rf (dwR M a j))
  obtain ⟨-, k1, hk1, cm1, hkk1⟩ := hao (dwK M b).2 (fun j => va_rf (dwR M b j))
  have hnw : nativeFrameWords "java/lang/System" "arraycopy" 5 + 11 ≤ 32 := by decide
  have hsp : sp.toNatClampNeg + n.toNatClampNeg ≤ (dwK M a).2 := by omega
  intro T hT X
  obtain ⟨vm', X', step⟩ := X.arraycopy cx.1 cx.2.2.2.2.1 (hts _ hlk) (hts _ hna) (hts _ hst) (hts _ hini) (src := a) (dst := b) (cs := arrV (g.2.2.2.1 6) (dwK M a).2 (fun j => va_rf (dwR M a j))) (cd := arrV (g.2.2.2.1 6) (dwK M b).2 (fun j => va_rf (dwR M b j))) (srcPos := sp) (destPos := dp) (n := n) (by rw [hT]; exact hc0) (by rw [hT]; exact hc1)
    (fun _ h => by cases h) (fun _ h => by cases h) (fun h => by cases h) (fun h => by cases h) hk0 hk1 hkk0 hkk1 rfl (lt0 _ h1) (lt0 _ h2) (lt0 _ h3)
    (by rw [arrV_size, e1, e3]; omega)
    (by rw [arrV_size, e2, e3]; omega)
    (fun vm₁ hal i hi => by
      have e : (arrV (g.2.2.2.1 6) (dwK M a).2 (fun j => va_rf (dwR M a j))).slots.getD (sp.toNatClampNeg + i) .null = va_rf (dwR M a (sp.toNatClampNeg + i)) := by
        rw [Array.getD_eq_getD_getElem?, arrV_read _ _ (by omega)]
        rfl
      rw [e]
      cases hy : dwR M a (sp.toNatClampNeg + i) with
      | none => exact ⟨rfl, trivial⟩
      | some y =>
        have hv := hel i hi
        rw [hy] at hv
        simp only [dwEm, Bool.and_eq_true, beq_iff_eq] at hv
        obtain ⟨cellV, g1, g2, ⟨kC, hkC⟩, hasg⟩ := dw_any cx hcs hS hv
        obtain ⟨kA, comp, r1, r2, r3, -⟩ := ((dw_kn cx).2 5 _ rfl).2
        cases hk1.symm.trans r1
        cases hkk1.symm.trans r2
        obtain ⟨kE, hkE, -⟩ := Vm.findClass_spec r3
        obtain ⟨kC', hkC', -⟩ := hal.2.2 _ _ hkC
        obtain ⟨kE', hkE', -⟩ := hal.2.2 _ _ hkE
        refine ⟨rfl, cellV, (show T.heap[y]? = some cellV by rw [hT]; exact g1), (fun q h => by rw [h] at g2; cases g2), ⟨kC', hkC'⟩, ?_, ?_⟩
        · exact ⟨kE', hkE'⟩
        · show vm₁.assignable _ _ = true
          rw [hal.assignable]
          exact hasg _ r3)
    (g := F0 m pc ls (.int n :: .int dp :: .ref b :: .int sp :: .ref a :: rest)) rfl (by rw [cx.2.2.1]; exact hls) (rest := rest) rfl (by rw [cx.2.1]; exact hdg) (by omega) (by show 2 * 0 + _ + _ ≤ _; omega)
  have ec : copied (arrV (g.2.2.2.1 6) (dwK M a).2 (fun j => va_rf (dwR M a j))) (arrV (g.2.2.2.1 6) (dwK M b).2 (fun j => va_rf (dwR M b j))) sp dp n = arrV (g.2.2.2.1 6) (dwK M b).2 (fun j => va_rf (va_cpy (dwR M a) (dwR M b) sp.toNatClampNeg dp.toNatClampNeg n.toNatClampNeg j)) := va_copied (fun z => va_rf z) _ _ (dwR M a) (dwR M b) hsp
  rw [ec] at X' step
  have hlb : b < H.size := (Array.getElem?_eq_some_iff.mp hc1).1
  have hheap : ((T.setVm vm').setCell b (arrV (g.2.2.2.1 6) (dwK M b).2 (fun j => va_rf (va_cpy (dwR M a) (dwR M b) sp.toNatClampNeg dp.toNatClampNeg n.toNatClampNeg j)))).heap = H.setIfInBounds b (arrV (g.2.2.2.1 6) (dwK M b).2 (fun j => va_rf (va_cpy (dwR M a) (dwR M b) sp.toNatClampNeg dp.toNatClampNeg n.toNatClampNeg j))) := by rw [← hT]; rfl
  have oq : ∀ q : Nat, q ≠ b → (H.setIfInBounds b (arrV (g.2.2.2.1 6) (dwK M b).2 (fun j => va_rf (va_cpy (dwR M a) (dwR M b) sp.toNatClampNeg dp.toNatClampNeg n.toNatClampNeg j))))[q]? = H[q]? := fun q hq => by simp [Array.getElem?_setIfInBounds, Ne.symm hq]
  have hbb : (H.setIfInBounds b (arrV (g.2.2.2.1 6) (dwK M b).2 (fun j => va_rf (va_cpy (dwR M a) (dwR M b) sp.toNatClampNeg dp.toNatClampNeg n.toNatClampNeg j))))[b]? = some (arrV (g.2.2.2.1 6) (dwK M b).2 (fun j => va_rf (va_cpy (dwR M a) (dwR M b) sp.toNatClampNeg dp.toNatClampNeg n.toNatClampNeg j))) := by simp [Array.getElem?_setIfInBounds, hlb]
  have hb8 : (dwK M b).1 < 8 := by rw [hkb]; decide
  have hup : dwSat g z (M.1, M.2.1, M.2.2.1, va_up M.2.2.2.1 b (va_cpy (dwR M a) (dwR M b) sp.toNatClampNeg dp.toNatClampNeg n.toNatClampNeg), M.2.2.2.2) (H.setIfInBounds b (arrV (g.2.2.2.1 6) (dwK M b).2 (fun j => va_rf (va_cpy (dwR M a) (dwR M b) sp.toNatClampNeg dp.toNatClampNeg n.toNatClampNeg j)))) := by
    refine hS.upd (a := b) hb8 rfl rfl rfl rfl rfl (fun x hx => ?_) (by simp) oq (fun x x' y y' => ?_) (dw_okA4 (t := 6) (by decide) (by decide) (n := (dwK M b).2) (dw_kd hkb) ?_)
    · exact ⟨by first | rfl | (simp [dwI, dwL, dwR, va_up, hx]; done), by first | rfl | (simp [dwI, dwL, dwR, va_up, hx]; done), by first | rfl | (simp [dwI, dwL, dwR, va_up, hx]; done)⟩
    · cases hc1.symm.trans y
      cases hbb.symm.trans y'
      rw [arrV_size, arrV_size]
    · rw [hbb]
      congr 2
      funext j
      simp [dwR, va_up]
  have hlo : ∀ (f : Value × Nat → Loc) (l : List (Value × Nat)), (∀ i, (f i).base = b) → ∀ q ∈ locs ++ l.map f, g.1.heap.size ≤ q.base := by
    intro f l hfb q hq
    rcases List.mem_append.mp hq with h9 | h9
    · exact hL q h9
    · obtain ⟨z9, -, hz⟩ := List.mem_map.mp h9
      rw [← hz, hfb]
      exact (hS.2.2.2.1 b hb8).1
  obtain ⟨t, a1, b1⟩ := k _ hf2 _ _ cells slots hup (hlo _ _ (fun _ => rfl)) _ hheap X'
  exact ⟨t, step t a1, b1⟩
end ROWM
