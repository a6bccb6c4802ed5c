theorem dw_specA {args : Array Value} {first s : State} {o : Option Outcome} {idx : List Nat} {t : FieldType} (h : (Cond.arrayOver (.array t)).holds args first o s idx = true) :
    ∃ comp c k, s.vm.findClass (FieldType.array t).toString = some comp ∧ (s.vm.classes.findIdx? fun (x : Class) => match x.kind with | .array component _ => component == comp | _ => false) = some c ∧ s.vm.classes[c]? = some k ∧ k.kind = .array comp (.array t) ∧ s.vm.findClass ("[" ++ (FieldType.array t).toString) = some c := by
  simp only [Cond.holds, Cond.value, beq_iff_eq] at h
  cases hc : s.vm.findClass (FieldType.array t).toString with
  | none => simp [hc] at h
  | some comp =>
    simp only [hc, Option.bind_some, Option.bind_eq_some_iff, Option.map_eq_some_iff] at h
    obtain ⟨c, hi, k, hk, hb⟩ := h
    obtain ⟨hlt, hp, -⟩ := Array.findIdx?_eq_some_iff_getElem.mp hi
    have hkk : s.vm.classes[c] = k := (Array.getElem?_eq_some_iff.mp hk).2
    rw [hkk] at hp
    cases hkind : k.kind with
    | array component ty =>
      rw [hkind] at hb hp
      simp at hb hp
      exact ⟨comp, c, k, rfl, hi, hk, by rw [hkind, hp, hb.1], hb.2⟩
    | _ => rw [hkind] at hb; simp at hb
theorem dw_AOA {ty : FieldType} {u U : State} {A B : Array Value} (hvm : u.vm.Alike U.vm) (h : (Cond.arrayOver (.array ty)).before A u = true) : (Cond.arrayOver (.array ty)).before B U = true := by
  obtain ⟨comp, c, k, h1, h2, h3, h4, h5⟩ := dw_specA h
  obtain ⟨k', hk', he⟩ := hvm.2.2 _ _ h3
  have hi : (U.vm.classes.findIdx? fun (x : Class) => match x.kind with | .array component _ => component == comp | _ => false) = some c := by
    have e1 := va_idx_bare U.vm comp
    have e2 := va_idx_bare u.vm comp
    first
      | exact e1.symm.trans ((congrArg (fun b : Vm => b.classes.findIdx? fun (x : Class) => match x.kind with | .array component _ => component == comp | _ => false) hvm.bare_eq).trans (e2.trans h2))
      | exact e1.symm.trans ((congrArg (fun b : Vm => b.classes.findIdx? fun (x : Class) => match x.kind with | .array component _ => component == comp | _ => false) hvm.bare_eq.symm).trans (e2.trans h2))
  have hkind : k'.kind = .array comp (.array ty) := by rw [he]; exact h4
  have f1 : U.vm.findClass (FieldType.array ty).toString = some comp := by rw [hvm.findClass]; exact h1
  have f2 : U.vm.findClass ("[" ++ (FieldType.array ty).toString) = some c := by rw [hvm.findClass]; exact h5
  unfold Cond.before Cond.holds
  simp only [Cond.value]
  rw [f1, Option.bind_some]
  refine (congrArg (fun o : Option Nat => (o.bind (fun c => (U.vm.classes[c]?).map fun (k : Class) => match k.kind with | .array _ ty' => decide (ty' = FieldType.array ty) && decide (U.vm.findClass ("[" ++ (FieldType.array ty).toString) = some c) | _ => false) == some true)) hi).trans ?_
  simp [hk', hkind, f2]
section ROWE
variable {g : dwG} {z : Nat × Nat} {M0 : dwSt} {p : Program} {l : Launch} {e : Env} {R : Room} {s : State} {m : MethodId} {args : Array Value} {below : List Frame} {meth : Method} {c : Code} {M : dwSt} {Q : State → Prop} {own : String} {cc : ByteArray} {nL : Nat} {pc : Nat} {ls : Array Slot} {rest : List Value} {ρ : Type} {res : ρ}
theorem dw_rowsF {M : dwSt} {N k a : Nat} : ∀ i, dwN (dwRows M N k a i) = dwN M + 1 + i ∧ dwU (dwRows M N k a i) = dwU M + N + i * k ∧ dwC (dwRows M N k a i) = dwC M
  | 0 => ⟨rfl, by show dwU M + N = _; omega, rfl⟩
  | i + 1 => by
    obtain ⟨h1, h2, h3⟩ := dw_rowsF (M := M) (N := N) (k := k) (a := a) i
    refine ⟨?_, ?_, h3⟩
    · show dwN (dwRows M N k a i) + 1 = _
      omega
    · show dwU (dwRows M N k a i) + k = _
      rw [h2, Nat.succ_mul]
      omega
theorem dw_rowsK {M : dwSt} {N k : Nat} : ∀ i, dwK (dwRows M N k (dwN M) i) (dwN M) = (4, N)
  | 0 => dw_mkE
  | i + 1 => by
    have h1 := (dw_rowsF (M := M) (N := N) (k := k) (a := dwN M) i).1
    show va_up (dwRows M N k (dwN M) i).1 (dwN (dwRows M N k (dwN M) i)) (1, k) (dwN M) = _
    unfold va_up
    rw [if_neg (by omega)]
    exact dw_rowsK i
theorem dw_fill {T : State} {N k : Nat} {cA comp : ClassId} (hS : dwSat g z M T.heap) (hcA : cA = g.2.2.2.1 4) (hcp : comp = g.2.2.2.1 1) (h1 : dwN M + 1 + N ≤ dwC M) (h2 : dwU M + (N + N * k) ≤ dwLS) : ∀ i, i ≤ N → dwSat g z (dwRows M N k (dwN M) i) (Jvm.Free.Multi.fill T cA comp N k (.int 0) i).heap
  | 0, _ => by
    subst hcA
    show dwSat g z (dwMk M (4, N) N) (T.heap.push (Jvm.Free.Multi.outerC (g.2.2.2.1 4) N T.heap.size 0))
    refine hS.new (by omega) (by omega) (by simp) (Array.getElem?_push_size) (Jvm.Free.Multi.outerC_facts _ _ _ _).2.2 (fun q hq => by rw [Array.getElem?_push, if_neg (Nat.ne_of_lt hq)]) (dw_okA4 (t := 4) (by decide) (by decide) dw_mkE ?_)
    rw [dw_mkR, ← hS.1, Array.getElem?_push_size]
    show some ({ cls := _, slots := Array.replicate N .null, vm := .none } : Cell) = _
    rw [arrV_new]
    rfl
  | i + 1, hi => by
    have ih := dw_fill hS hcA hcp h1 h2 i (by omega)
    obtain ⟨f1, f2, f3⟩ := dw_rowsF (M := M) (N := N) (k := k) (a := dwN M) i
    have hk4 := dw_rowsK (M := M) (N := N) (k := k) i
    have ff := Jvm.Free.Multi.fill_facts T cA comp N k (.int 0) i
    have hmul : (i + 1) * k ≤ N * k := Nat.mul_le_mul_right k hi
    rw [Nat.succ_mul] at hmul
    show dwSat g z (dwPR (dwMk (dwRows M N k (dwN M) i) (1, k) k) (dwN M) i (some (dwN (dwRows M N k (dwN M) i)))) _
    generalize hMi : dwRows M N k (dwN M) i = Mi at ih f1 f2 f3 hk4 ⊢
    have hTn : T.heap.size = dwN M := hS.1
    generalize hHi : (Jvm.Free.Multi.fill T cA comp N k (.int 0) i) = Si at ih ff
    have hSn : dwSat g z (dwMk Mi (1, k) k) (Si.heap.push (Jvm.Free.Multi.innerC comp k (.int 0))) := by
      refine ih.new (by omega) (by omega) (by simp) (Array.getElem?_push_size) (by simp [Jvm.Free.Multi.innerC]) (fun q hq => by rw [Array.getElem?_push, if_neg (Nat.ne_of_lt hq)]) (dw_okA1 dw_mkE ?_)
      rw [dw_mkI, ← ih.1, Array.getElem?_push_size]
      show some ({ cls := comp, slots := Array.replicate k (.int 0), vm := .none } : Cell) = _
      rw [arrV_new, hcp]
    have hk4' : dwK (dwMk Mi (1, k) k) (dwN M) = (4, N) := by
      show va_up Mi.1 (dwN Mi) (1, k) (dwN M) = _
      unfold va_up
      rw [if_neg (by omega)]
      exact hk4
    have hcell := (hSn.2.2.2.2.2.1 (dwN M)).2.2.2.2.1 4 N (by decide) (by decide) hk4'
    have hout : (Si.heap.push (Jvm.Free.Multi.innerC comp k (.int 0)))[dwN M]? = some (Jvm.Free.Multi.outerC cA N T.heap.size i) := by
      rw [Array.getElem?_push, if_neg (by rw [ff.1]; omega), ← hTn]
      exact ff.2.1
    have heq := Option.some.inj (hout.symm.trans hcell)
    have hH' : (Jvm.Free.Multi.fill T cA comp N k (.int 0) (i + 1)).heap = (Si.heap.push (Jvm.Free.Multi.innerC comp k (.int 0))).setIfInBounds (dwN M) (Jvm.Free.Multi.outerC cA N T.heap.size (i + 1)) := by
      rw [← hTn, ← hHi]
      rfl
    have hlt : dwN M < (Si.heap.push (Jvm.Free.Multi.innerC comp k (.int 0))).size := (Array.getElem?_eq_some_iff.mp hout).1
    have hnew : Jvm.Free.Multi.outerC cA N T.heap.size (i + 1) = (arrV (g.2.2.2.1 4) N (fun j => va_rf (dwR (dwMk Mi (1, k) k) (dwN M) j))).setSlot i (.ref (T.heap.size + 1 + i)) := by
      rw [← heq]
      rfl
    refine hSn.upd (a := dwN M) (by rw [hk4']; exact Nat.lt_of_sub_eq_succ rfl) rfl rfl rfl rfl rfl (fun b hb => ?_) (by rw [hH']; simp) (fun q hq => by rw [hH', Array.getElem?_setIfInBounds_ne (Ne.symm hq)]) (fun x x' y y' => ?_) (dw_okA4 (t := 4) (n := N) (by decide) (by decide) hk4' ?_)
    · refine ⟨rfl, rfl, ?_⟩
      funext j
      simp [dwPR, dwR, up2, hb]
    · rw [hcell] at y
      cases y
      rw [hH', Array.getElem?_setIfInBounds_self, if_pos hlt, hnew] at y'
      cases y'
      exact k2_slotsz _ _ _
    · rw [hH', Array.getElem?_setIfInBounds_self, if_pos hlt, hnew, arrV_store]
      congr 2
      funext j
      unfold updV
      by_cases hj : j = i
      · rw [if_pos hj, hj]
        have : dwN Mi = T.heap.size + 1 + i := by omega
        simp [dwPR, dwR, up2, va_rf, this]
      · rw [if_neg hj]
        simp [dwPR, dwR, up2, hj]
theorem v_new2 (cx : dwCx g z M0 p l R s m args meth c own cc nL) {index : Nat} {n k : Int32} (hcl : Cond.classLink own index "[[I" ∈ lw_all) (hov : Cond.arrayOver (.array .int) ∈ lw_tbl) (har : Cond.arrayClass .int ∈ lw_all) {K : Nat → dwSt → Option ρ} (hf : xnew2 M n k K = some res) (hdg : decode cc pc = .ok (.multianewarray index 2, 4)) (kk : ∀ a M', K a M' = some res → dwV g z p l e R s m args below meth c M' Q (F0 m (pc + 4) ls (.ref a :: rest))) : dwV g z p l e R s m args below meth c M Q (F0 m pc ls (.int k :: .int n :: rest)) := by
  intro H locs cells slots hS hL
  unfold xnew2 at hf
  obtain ⟨⟨n0, n1, k0, k1, r1, r2⟩, h2⟩ := ite_e hf
  have hts := cx.2.2.2.2.2.1
  refine dw_W cx hS fun q1 q2 => ?_
  obtain ⟨m1, m2⟩ := dw_rm cx hS q1 q2 (k := 1 + n.toNatClampNeg) (by omega) r2
  have hn0 : ¬ n < 0 := by
    rw [Int32.lt_iff_toInt_lt, Int32.toInt_zero]
    omega
  have hk0 : ¬ k < 0 := by
    rw [Int32.lt_iff_toInt_lt, Int32.toInt_zero]
    omega
  have hnn : n.toNatClampNeg ≤ 60000 := by
    show n.toInt.toNat ≤ _
    omega
  have hkk : k.toNatClampNeg ≤ 60000 := by
    show k.toInt.toNat ≤ _
    omega
  obtain ⟨⟨b0, w0, -⟩, -⟩ := cx.2.2.2.2.2.2.1
  intro T hT X
  obtain ⟨vm₁, cA, comp, hW, f1, f2, f3, f4, X', st⟩ := X.multianewarray2F cx.1 (ty := .int) cx.2.2.2.2.1 (hts _ hcl) (dw_AOA cx.2.2.2.2.2.2.2.1.alike (w0 _ hov)) (hts _ har) (g := F0 m pc ls (.int k :: .int n :: rest)) rfl (by rw [cx.2.1]; exact hdg) rfl hn0 hk0 (by omega) (by show _ * 4 ≤ _; omega) (by omega) rfl rfl m1 m2
  have hra := fun (j : Nat) (q : ClassId × FieldType) hq => ((dw_kn cx).2 j q hq).2
  have hcA : cA = g.2.2.2.1 4 := Option.some.inj (f1.symm.trans (hra 3 _ rfl))
  have hcp : comp = g.2.2.2.1 1 := Option.some.inj (f2.symm.trans (hra 0 _ rfl))
  have hSf := dw_fill (T := T.setVm vm₁) (N := n.toNatClampNeg) (k := k.toNatClampNeg) (M := M) (by show dwSat g z M T.heap; rw [hT]; exact hS) hcA hcp r1 r2 n.toNatClampNeg (Nat.le_refl _)
  have hnx : T.heap.size = dwN M := by rw [hT]; exact hS.1
  obtain ⟨t, a1, b1⟩ := kk _ _ h2 _ locs _ _ hSf hL _ rfl X'
  refine ⟨t, st t ?_, b1⟩
  show Steps _ _ _ (_) t
  rw [hnx]
  exact a1
end ROWE
