/-! EXCEPTIONS: what a method answers that may throw: a value, or (which exception, where it lies) -/
def dwEx (cl : Nat) : String := match cl with
  | 0 => "DimpleWells$Wrong"
  | 1 => "java/lang/IllegalArgumentException"
  | _ => "java/util/NoSuchElementException"
abbrev dwR9 (α : Type) : Type := Option ((α ⊕ (Nat × Nat)) × dwSt)
def xth {α ρ : Type} (x : dwR9 α) (K : α → dwSt → Option ρ) (KX : Nat → Nat → dwSt → Option ρ) : Option ρ := match x with
  | some (.inl v, M) => K v M
  | some (.inr (cl, q), M) => KX cl q M
  | none => none
def xthr {α : Type} (M : dwSt) (cl : Nat) : dwR9 α := if dwN M < dwC M ∧ dwU M + 6 ≤ dwLS then some (.inr (cl, dwN M), dwMk M (99, 0) 6) else none
def dwQx (g : dwG) (M : dwSt) {α : Type} (val : α → Option Value) (x : α ⊕ (Nat × Nat)) (M' : dwSt) : Array Value → State → Outcome → State → Prop := match x with
  | .inl v => dwQc g M (val v) M'
  | .inr _ => fun _ _ _ _ => False
def dwXc (g : dwG) (M : dwSt) {α : Type} (x : α ⊕ (Nat × Nat)) (M' : dwSt) : String → Addr → State → State → Prop := fun E q st t => ∃ cl, x = .inr (cl, q) ∧ E = dwEx cl ∧ dwSat g (dwHsz st.heap, dwU M) M' t.heap
def dwWX (g : dwG) (l : Launch) (y : MethodName) (ws : List Cond) (fr lo : Nat) (As : List Value) (M : dwSt) {α : Type} (val : α → Option Value) (x : α ⊕ (Nat × Nat)) (M' : dwSt) : Prop :=
  vx_Met l y ws (dwRoom M fr lo) (va_Pc As (fun U => dwSat g (dwHsz U.heap, dwU M) M U.heap ∧ g.1.WarmedH U.vm)) (dwQx g M val x M') (dwXc g M x M') (dwC M - dwN M) (dwLS - dwU M) (fun q => g.1.heap.size ≤ q)
def dwMX (g : dwG) (M0 : dwSt) (below : List Frame) (args : Array Value) (s : State) {α : Type} (val : α → Option Value) (x : α ⊕ (Nat × Nat)) (M' : dwSt) : State → Prop := vx_MQ below (dwQx g M0 val x M') (dwXc g M0 x M') args s (dwC M0 - dwN M0) (dwLS - dwU M0) (fun q => g.1.heap.size ≤ q)
/-- the frame fr, with the exception at q thrown over it -/
def dwT (g : dwG) (z : Nat × Nat) (p : Program) (l : Launch) (e : Env) (R : Room) (s : State) (m : MethodId) (args : Array Value) (below : List Frame) (meth : Method) (c : Code) (M : dwSt) (Q : State → Prop) (fr : JFrame) (cl q : Nat) : Prop :=
  ∀ (H : Heap) (locs : List Loc) (cells slots : Nat), dwSat g z M H → (∀ q ∈ locs, g.1.heap.size ≤ q.base) → (∃ ce : Cell, H[q]? = some ce ∧ ce.vm = .none ∧ s.vm.findClass (dwEx cl) = some ce.cls) → vx_W p l e R s m args below meth c H locs cells slots Q fr q
/-- the table of handlers of a method -/
def dwHH (c : Code) (hh : List (Nat × Nat × Nat × Nat)) : Prop := c.exceptionTable.toList = tableOf hh
theorem tableOf_app (a b : List (Nat × Nat × Nat × Nat)) : tableOf (a ++ b) = tableOf a ++ tableOf b := by
  unfold tableOf
  exact List.map_append
theorem dw_gU {b0 : Addr} {s : State} (h : (Jvm.Cond.and given_1 narrow_1).before #[Value.ref b0] s = true) : (Cond.isRef (.static Bundle.tN "UNASSIGNED_STACK" Bundle.steD)).before #[Value.ref b0] s = true := by
  exact flat_of_before _ h _ (by decide +kernel)
theorem dw_gN {b0 : Addr} {s : State} (h : (Jvm.Cond.and given_1 narrow_1).before #[Value.ref b0] s = true) : (Cond.isRef (.static Bundle.tN "SUPPRESSED_SENTINEL" Bundle.listD)).before #[Value.ref b0] s = true := by
  exact flat_of_before _ h _ (by decide +kernel)
def dw_isD : Cond → Bool
  | .declares _ => true
  | .castable .. => true
  | _ => false
theorem at0_I : ∀ w ∈ vx_at0 "DimpleWells" 148 (dwEx 1) ["java/lang/RuntimeException", "java/lang/Exception"], w ∈ lw_tbl ∧ (goodWord w || dw_isD w) = true := by
  have h : (vx_at0 "DimpleWells" 148 (dwEx 1) ["java/lang/RuntimeException", "java/lang/Exception"]).all (fun w => decide (w ∈ lw_tbl) && (goodWord w || dw_isD w)) = true := by decide +kernel
  intro w hw
  have h1 := List.all_eq_true.mp h w hw
  simp only [Bool.and_eq_true, decide_eq_true_eq] at h1
  exact h1
theorem at0_N : ∀ w ∈ vx_at0 "DimpleWells" 151 (dwEx 2) ["java/lang/RuntimeException", "java/lang/Exception"], w ∈ lw_tbl ∧ (goodWord w || dw_isD w) = true := by
  have h : (vx_at0 "DimpleWells" 151 (dwEx 2) ["java/lang/RuntimeException", "java/lang/Exception"]).all (fun w => decide (w ∈ lw_tbl) && (goodWord w || dw_isD w)) = true := by decide +kernel
  intro w hw
  have h1 := List.all_eq_true.mp h w hw
  simp only [Bool.and_eq_true, decide_eq_true_eq] at h1
  exact h1
section ROWX
variable {g : dwG} {z : Nat × Nat} {M0 : dwSt} {p : Program} {l : Launch} {e : Env} {R : Room} {s : State} {m : MethodId} {args : Array Value} {below : List Frame} {meth : Method} {c : Code} {M : dwSt} {Q : State → Prop} {own : String} {cc : ByteArray} {nL : Nat} {pc : Nat} {ls : Array Slot} {rest : List Value} {ρ : Type} {res : ρ}
theorem v_startX {α : Type} {val : α → Option Value} {x : α ⊕ (Nat × Nat)} {y : MethodName} {ret : Option FieldType} {fr lo : Nat} {As : List Value} {M' : dwSt} {own : String} (hg : dwG0 g) (hl : l.stackTraces = false) (hy : plainName y.cls = true) (hyo : y.cls = own) (hln : (lg_sl As).length ≤ nL)
    (body : ∀ (p : Program) (e : Env) (R : Room) (s : State) (m : MethodId) (args : Array Value) (below : List Frame) (meth : Method) (c : Code) (Q : State → Prop) (ls : Array Slot), dwCx g (dwHsz s.heap, dwU M) M p l R s m args meth c own cc nL → R.frames = fr → R.locals = lo → Q = dwMX g M below args s val x M' → meth.sig.returnType = ret → (y.name = "<init>" → meth.name = "<init>") → dwHH c [] → lv_has ls nL (lv_args 0 As) → dwV g (dwHsz s.heap, dwU M) p l e R s m args below meth c M Q (F0 m 0 ls [])) : dwWX g l y (ws_ y cc nL ret) fr lo As M val x M' := by
  refine vx_ofW (cc := cc) (maxL := nL) (ret := ret) hy rfl ?_
  intro p e s m args below meth c s₁ B hml htab hv
  obtain ⟨rfl, hS, hW⟩ := hv
  have hts := atoms_spec (ws := ws_ y cc nL ret) B.pre
  rw [lg_entry_eq]
  refine body p e (dwRoom M fr lo) s m _ below meth c _ _ ⟨B.exec, B.bytes, hml, B.notSynchronized, ?_, fun w h => hts w (List.mem_cons_of_mem _ h), hg, hW, hS, rfl, rfl, hl, rfl⟩ rfl rfl rfl B.returns (fun h => ?_) ?_ (lv_entry As hln) _ _ _ _ hS (fun q h => nomatch h)
  · rw [← hyo]; exact findClass_of_methodNamed B.named
  · rw [← h]; exact (name_of_methodNamed B.named B.method).1
  · show c.exceptionTable.toList = []
    cases h : c.exceptionTable.toList with
    | nil => rfl
    | cons x t => exact (htab x (by rw [h]; exact List.mem_cons_self)).elim
theorem v_startXH {α : Type} {val : α → Option Value} {x : α ⊕ (Nat × Nat)} {y : MethodName} {ret : Option FieldType} {hh : List (Nat × Nat × Nat × Nat)} {fr lo : Nat} {As : List Value} {M' : dwSt} {own : String} (hg : dwG0 g) (hl : l.stackTraces = false) (hy : plainName y.cls = true) (hyo : y.cls = own) (hln : (lg_sl As).length ≤ nL)
    (body : ∀ (p : Program) (e : Env) (R : Room) (s : State) (m : MethodId) (args : Array Value) (below : List Frame) (meth : Method) (c : Code) (Q : State → Prop) (ls : Array Slot), dwCx g (dwHsz s.heap, dwU M) M p l R s m args meth c own cc nL → R.frames = fr → R.locals = lo → Q = dwMX g M below args s val x M' → meth.sig.returnType = ret → (y.name = "<init>" → meth.name = "<init>") → dwHH c hh → lv_has ls nL (lv_args 0 As) → dwV g (dwHsz s.heap, dwU M) p l e R s m args below meth c M Q (F0 m 0 ls [])) : dwWX g l y (wsW_ y cc nL ret hh) fr lo As M val x M' := by
  refine vx_ofWH (cc := cc) (maxL := nL) (ret := ret) (hh := hh) hy rfl ?_
  intro p e s m args below meth c s₁ B hml hv
  obtain ⟨rfl, hS, hW⟩ := hv
  have hts := atoms_spec (ws := wsW_ y cc nL ret hh) B.pre
  rw [lg_entry_eq]
  refine body p e (dwRoom M fr lo) s m _ below meth c _ _ ⟨B.exec, B.bytes, hml, B.notSynchronized, ?_, fun w h => hts w (List.mem_cons_of_mem _ h), hg, hW, hS, rfl, rfl, hl, rfl⟩ rfl rfl rfl B.returns (fun h => ?_) ?_ (lv_entry As hln) _ _ _ _ hS (fun q h => nomatch h)
  · rw [← hyo]; exact findClass_of_methodNamed B.named
  · rw [← h]; exact (name_of_methodNamed B.named B.method).1
  · exact vx_table (x := y) B (hts _ List.mem_cons_self)
theorem v_xret (cx : dwCx g z M0 p l R s m args meth c own cc nL) {α : Type} {val : α → Option Value} {v : α} {x : α ⊕ (Nat × Nat)} {M' : dwSt} {fr : JFrame} (hf : some (Sum.inl v, M) = some (x, M')) (hQ : Q = dwMX g M0 below args s val x M')
    (k : ∀ Q', Q' = MQ below (dwQc g M0 (val v) M) args s (dwC M0 - dwN M0) (dwLS - dwU M0) (fun q => g.1.heap.size ≤ q) → dwV g z p l e R s m args below meth c M Q' fr) : dwV g z p l e R s m args below meth c M Q fr := by
  cases hf
  subst hQ
  intro H locs cells slots hS hL
  exact vx_ret (k _ rfl H locs cells slots hS hL)
/-- a call of a method that may throw -/
theorem v_callX (cx : dwCx g z M0 p l R s m args meth c own cc nL) {α : Type} {val : α → Option Value} {x : α ⊕ (Nat × Nat)} {M' : dwSt} {a : Array Value} {st0 : List Value}
    (hrun : ∀ (H : Heap) (locs : List Loc) (cells slots : Nat), dwSat g z M H → cells + (dwC M - dwN M) ≤ R.cells ∧ slots + (dwLS - dwU M) ≤ R.slots → vx_Run p l e R s m args below meth c H locs cells slots (dwC M - dwN M) (dwLS - dwU M) (F0 m pc ls st0) rest (dwQx g M val x M' a) (dwXc g M x M') (fun q => g.1.heap.size ≤ q))
    (k : ∀ r, x = .inl r → dwV g z p l e R s m args below meth c M' Q (F0 m (pc + 3) ls ((val r).toList ++ rest))) (kx : ∀ cl q, x = .inr (cl, q) → dwT g z p l e R s m args below meth c M' Q (F0 m pc ls rest) cl q) : dwV g z p l e R s m args below meth c M Q (F0 m pc ls st0) := by
  intro H locs cells slots hS hL
  refine dw_W cx hS fun q1 q2 => ?_
  have a1 := cx.2.2.2.2.2.2.2.2.2.1
  have a2 := cx.2.2.2.2.2.2.2.2.2.2.1
  have b1 := cx.2.2.2.2.2.2.2.2.1.2.2.2.2.2.2.2.2.2.1
  have b2 := hS.2.2.2.2.2.2.2.2.2.1
  have b3 := hS.2.2.2.2.2.2.2.1
  have b4 := hS.2.2.2.2.2.2.2.2.1
  have hroom : (dwN M - dwN M0) + (dwC M - dwN M) ≤ R.cells ∧ (dwU M - dwU M0) + (dwLS - dwU M) ≤ R.slots := by
    rw [a1, a2]
    constructor <;> omega
  intro T hT X
  rcases hrun H locs _ _ hS hroom T hT X with ⟨v, st₀, t, T', L, h0, X', hL', e1, e2, hv, st⟩ | ⟨q, st₀, t, T', L, E, ce, h0, X', hL', e1, e2, ⟨cl, hx, hE, hS'⟩, hce, hcv, hcl, st⟩
  · cases x with
    | inr x => exact hv.elim
    | inl r =>
      obtain ⟨hv, hS'⟩ := hv
      cases hv
      obtain ⟨t2, c1, c2⟩ := k r rfl T'.heap (locs ++ L) _ _ (by rw [e1]; rw [h0] at hS'; exact hS.tr hS') (fun q hq => by
        rcases List.mem_append.mp hq with h | h
        · exact hL q h
        · exact hL' q h) T' rfl X'
      exact ⟨t2, st t2 c1, c2⟩
  · subst hE
    obtain ⟨t2, c1, c2⟩ := kx cl q hx T'.heap (locs ++ L) _ _ (by rw [e1]; rw [h0] at hS'; exact hS.tr hS') (fun q hq => by
        rcases List.mem_append.mp hq with h | h
        · exact hL q h
        · exact hL' q h) ⟨ce, by rw [e1]; exact hce, hcv, hcl⟩ T' rfl X'
    exact ⟨t2, st.trans c1, c2⟩
/-- not caught here -/
theorem v_xout (cx : dwCx g z M0 p l R s m args meth c own cc nL) {α : Type} {val : α → Option Value} {x : α ⊕ (Nat × Nat)} {M' : dwSt} {cl q : Nat} {hh : List (Nat × Nat × Nat × Nat)} (hf : some (Sum.inr (cl, q), M) = some (x, M')) (hQ : Q = dwMX g M0 below args s val x M') (hT : dwHH c hh) (hout : ∀ x ∈ tableOf hh, covers x pc = false) : dwT g z p l e R s m args below meth c M Q (F0 m pc ls rest) cl q := by
  cases hf
  subst hQ
  intro H locs cells slots hS hL ⟨ce, h1, h2, h3⟩ T hT' X
  obtain ⟨q1, q2, X'⟩ := dw_tight cx.2.2.2.2.2.2.2.2.2.2.2.2 cx.2.2.2.2.2.2.2.2.1 X (by rw [hT']; exact hS)
  have b1 := cx.2.2.2.2.2.2.2.2.1.2.2.2.2.2.2.2.2.2.1
  have b2 := hS.2.2.2.2.2.2.2.2.2.1
  have b3 := hS.2.2.2.2.2.2.2.1
  have b4 := hS.2.2.2.2.2.2.2.2.1
  exact vx_out (by rw [hT]; exact hout) cx.2.2.2.1 h1 h2 h3 (fun t ht _ => ⟨cl, rfl, rfl, by rw [ht, ← cx.2.2.2.2.2.2.2.2.2.2.2.2]; exact hS⟩) hL (by omega) (by omega) T hT' X'
theorem v_catch (cx : dwCx g z M0 p l R s m args meth c own cc nL) {cl q : Nat} {name : String} {hh pre suf : List (Nat × Nat × Nat × Nat)} {x : Nat × Nat × Nat × Nat} {hpc tix : Nat} (hT : dwHH c hh) (hsp : hh = pre ++ x :: suf)
    (hpass : ∀ z ∈ tableOf pre, covers z pc = false ∨ (z.catchType ≠ 0 ∧ ∃ nm : String, (Cond.classLink own z.catchType nm).before args s = true ∧ va_Nc (dwEx cl) nm s)) (hx : ∀ z ∈ tableOf [x], covers z pc = true ∧ z.catchType = tix ∧ z.handlerPc = hpc) (h0 : tix ≠ 0)
    (hlink : Cond.classLink own tix name ∈ lw_all) (hcast : Cond.castable (dwEx cl) name ∈ lw_tbl) (k : dwV g z p l e R s m args below meth c M Q (F0 m hpc ls [.ref q])) : dwT g z p l e R s m args below meth c M Q (F0 m pc ls rest) cl q := by
  intro H locs cells slots hS hL ⟨ce, h1, h2, h3⟩
  have hts := cx.2.2.2.2.2.1
  subst hsp
  obtain ⟨y, hy⟩ : ∃ y, tableOf [x] = [y] := ⟨_, rfl⟩
  have happ : tableOf (pre ++ x :: suf) = tableOf pre ++ y :: tableOf suf := by
    rw [tableOf_app, show x :: suf = [x] ++ suf from rfl, tableOf_app, hy]
    rfl
  obtain ⟨hy1, rfl, rfl⟩ := hx y (by rw [hy]; exact List.mem_cons_self)
  exact vx_catch cx.2.2.2.2.1 (tableOf pre) y (tableOf suf) (hT.trans happ) hpass hy1 h0 (hts _ hlink) (va_Nw.use rfl (dw_nC cx hcast)) h1 h2 h3 (k H locs cells slots hS hL)
theorem v_athrow (cx : dwCx g z M0 p l R s m args meth c own cc nL) {q : Nat} (hk : dwK M q = (0, 5)) (hdg : decode cc pc = .ok (.athrow, 1)) (k : dwT g z p l e R s m args below meth c M Q (F0 m pc ls rest) 0 q) : dwV g z p l e R s m args below meth c M Q (F0 m pc ls (.ref q :: rest)) := by
  intro H locs cells slots hS hL
  refine vx_athrow cx.1 cx.2.1 hdg (k H locs cells slots hS hL ?_)
  obtain ⟨hCO, cell, c1, c2, c3, c4⟩ := (hS.2.2.2.2.2.1 q).1 5 hk
  obtain ⟨hSl, hfc, -⟩ := (dw_kn cx).1 _ _ hCO.1
  exact ⟨cell, c1, c3, by rw [c2]; exact hfc⟩
theorem xth_e {α : Type} {x0 : dwR9 α} {K : α → dwSt → Option ρ} {KX : Nat → Nat → dwSt → Option ρ} (hf : xth x0 K KX = some res) : ∃ x M', x0 = some (x, M') ∧ (∀ r, x = .inl r → K r M' = some res) ∧ ∀ cl q, x = .inr (cl, q) → KX cl q M' = some res := by
  rcases x0 with - | ⟨v | ⟨cl, q⟩, M'⟩
  · exact dw_no hf
  · exact ⟨_, _, rfl, fun r h => by cases h; exact hf, fun cl q h => nomatch h⟩
  · exact ⟨_, _, rfl, (fun r h => nomatch h), (fun cl' q' h => by cases h; exact hf)⟩
theorem dwSat.junk {M : dwSt} {H H' : Heap} (hS : dwSat g z M H) (hn : dwN M < dwC M) (hu : dwU M + 6 ≤ dwLS) (hz : H'.size = H.size + 1) (hsz : dwHsz H' ≤ dwHsz H + 6) (oq : ∀ q, q < H.size → H'[q]? = H[q]?) : dwSat g z (dwMk M (99, 0) 6) H' := by
  obtain ⟨h1, h2, h3, h4, h5, h6, h7, h8, h9, h10, h11⟩ := hS
  have en : dwN (dwMk M (99, 0) 6) = dwN M + 1 := rfl
  have eu : dwU (dwMk M (99, 0) 6) = dwU M + 6 := rfl
  have ec : dwC (dwMk M (99, 0) 6) = dwC M := rfl
  have ek : ∀ b, b ≠ dwN M → dwK (dwMk M (99, 0) 6) b = dwK M b := fun b hb => by simp [dwMk, dwK, va_up, hb]
  have e9 : dwK (dwMk M (99, 0) 6) (dwN M) = (99, 0) := by simp [dwMk, dwK, va_up]
  refine ⟨by rw [hz, en, h1], by rw [en]; omega, fun q hq => ?_, fun b hb => ?_, fun b hb => ?_, fun b => ?_, ?_, by rw [en, ec]; omega, by rw [eu]; exact hu, by rw [ec]; exact h10, h11⟩
  · rw [oq q (by omega)]
    exact h3 q hq
  · rw [en]
    by_cases e : b = dwN M
    · rw [e, e9] at hb; exact absurd hb (by decide)
    · rw [ek b e] at hb
      have := h4 b hb
      omega
  · rw [en]
    by_cases e : b = dwN M
    · rw [e, e9] at hb; exact absurd hb (by decide)
    · rw [ek b e] at hb
      have := h5 b hb
      omega
  · by_cases e : b = dwN M
    · rw [e]
      refine ⟨fun ci e => ?_, fun n e => ?_, fun n e => ?_, fun n e => ?_, fun t n t1 t2 e => ?_, fun ci e => ?_, fun n e => ?_, fun n e => ?_⟩ <;> (rw [e9] at e; have := congrArg Prod.fst e; simp only at this; omega)
    · have hk := ek b e
      by_cases hl : b < dwN M
      · exact (h6 b).kept hk (by simp [dwMk, dwI, va_up, e]) (by simp [dwMk, dwL, va_up, e]) (by simp [dwMk, dwR, va_up, e]) (oq b (by omega))
      · have hj : ¬ (dwK M b).1 < 20 := fun q => hl (h5 b q)
        rw [← hk] at hj
        refine ⟨fun ci e => ?_, fun n e => ?_, fun n e => ?_, fun n e => ?_, fun t n t1 t2 e => ?_, fun ci e => ?_, fun n e => ?_, fun n e => ?_⟩ <;> (rw [e] at hj; exact absurd hj (by simp only; omega))
  · rw [eu]
    omega
theorem dw_zqU (cx : dwCx g z M0 p l R s m args meth c own cc nL) : vx_Zq Bundle.tN "UNASSIGNED_STACK" Bundle.steD (fun q => g.1.heap.size ≤ q) s s.heap ∧ vx_Zq Bundle.tN "SUPPRESSED_SENTINEL" Bundle.listD (fun q => g.1.heap.size ≤ q) s s.heap := by
  obtain ⟨⟨b0, w0, hn⟩, -⟩ := cx.2.2.2.2.2.2.1
  have hW := cx.2.2.2.2.2.2.2.1
  have hS := cx.2.2.2.2.2.2.2.2.1
  have hk : ∀ a : Nat, a < g.1.heap.size → ¬ g.1.heap.size ≤ a → s.heap[a]? = g.1.heap[a]? := fun a h _ => hS.2.2.1 a h
  refine ⟨vx_Zq.moved hW.alike (vx_Zq.kept (vx_Zqof (args := #[Value.ref b0]) (w0 _ q206) (w0 _ (lw_all_tbl q102)) ?_ (fun a h q => by omega)) hk), vx_Zq.moved hW.alike (vx_Zq.kept (vx_Zqof (args := #[Value.ref b0]) (w0 _ q208) (w0 _ (lw_all_tbl q102)) ?_ (fun a h q => by omega)) hk)⟩
  · exact dw_gU hn
  · exact dw_gN hn
theorem v_throw0 (cx : dwCx g z M0 p l R s m args meth c own cc nL) {α : Type} {val : α → Option Value} {x : α ⊕ (Nat × Nat)} {M' : dwSt} {cl ik ic : Nat} {names : List String} {Fr Lo : Nat} (hf : xthr M cl = some (x, M')) (hQ : Q = dwMX g M0 below args s val x M') (hT : dwHH c [])
    (hcls : Bundle.fit (dwEx cl) = true) (hnames : ∀ n ∈ names, Bundle.fit n = true) (hlk : Cond.classLink own ik (dwEx cl) ∈ lw_all) (hini : Cond.initialized (dwEx cl) ∈ lw_all) (hat : ∀ w ∈ vx_at0 own ic (dwEx cl) names, w ∈ lw_tbl ∧ (goodWord w || dw_isD w) = true)
    (d0 : decode cc pc = .ok (.new ik, 3)) (d3 : decode cc (pc + 3) = .ok (.dup, 1)) (d4 : decode cc (pc + 4) = .ok (.invokespecial ic, 3)) (d7 : decode cc (pc + 7) = .ok (.athrow, 1)) (hRf : R.frames = Fr) (hRl : R.locals = Lo) (hF : names.length + 3 < Fr) (hLo : 8 + (13 * (names.length + 1) + 42) ≤ Lo) (hrest : (rest.map fun v => v.category).sum ≤ 8) (hls : ls.size = nL) : dwV g z p l e R s m args below meth c M Q (F0 m pc ls rest) := by
  unfold xthr at hf
  obtain ⟨⟨r1, r2⟩, h2⟩ := ite_e hf
  cases h2
  subst hQ
  intro H locs cells slots hS hL
  have hts := cx.2.2.2.2.2.1
  have hat2 : ∀ w ∈ vx_at0 own ic (dwEx cl) names, w.before args s = true ∧ vx_ot w = true := fun w h => by
    obtain ⟨h1, h2⟩ := hat w h
    by_cases hgw : goodWord w = true
    · exact ⟨hts _ (lw_g h1 hgw), by unfold vx_ot; rw [hgw, Bool.or_true]⟩
    · have h3 : dw_isD w = true := by
        rcases Bool.or_eq_true_iff.mp h2 with h | h
        · exact absurd h hgw
        · exact h
      unfold dw_isD at h3
      split at h3
      · exact ⟨va_Nw.use rfl (dw_nD cx h1), rfl⟩
      · exact ⟨va_Nw.use rfl (dw_nC cx h1), rfl⟩
      · exact absurd h3 (by decide)
  have hgd : ∀ w ∈ lw_all, vx_ot w = true := fun w h => by
    have h1 := (List.mem_filter.mp h).2
    unfold vx_ot
    rw [h1, Bool.or_true]
  refine dw_W cx hS fun q1 q2 => ?_
  obtain ⟨m1, m2⟩ := dw_rm cx hS q1 q2 (k := 1) r1 r2
  have b1 := cx.2.2.2.2.2.2.2.2.1.2.2.2.2.2.2.2.2.2.1
  have b2 := hS.2.2.2.2.2.2.2.2.2.1
  have hS0 := cx.2.2.2.2.2.2.2.2.1
  obtain ⟨zU, zN⟩ := dw_zqU cx
  refine vx_throw0 cx.1 cx.2.1 cx.2.2.2.2.2.2.2.2.2.2.2.1 cx.2.2.2.2.1 hcls hnames (hts _ hlk) (hts _ hini) (fun w h => (hat2 w h).1) ?_ zU zN ?_ (by rw [cx.2.2.1]; exact hls) d0 d3 d4 d7 ?_ (by omega) (by omega) m1 m2 cx.2.2.2.1 ?_ hL (by omega) (by omega)
  · intro w h
    rcases List.mem_cons.mp h with h | h
    · rw [h]; exact hgd _ hlk
    · rcases List.mem_cons.mp h with h | h
      · rw [h]; exact hgd _ hini
      · exact (hat2 w h).2
  · refine ⟨?_, fun q hq hA => ?_, hL⟩
    · rw [hS.1, hS0.1]; exact q1
    · have : q < g.1.heap.size := Nat.lt_of_not_le hA
      rw [hS.2.2.1 q this, hS0.2.2.1 q this]
  · intro y hy
    rw [hT] at hy
    exact absurd hy List.not_mem_nil
  · intro t _ c1 c2 c3 c4
    refine ⟨cl, by rw [hS.1], rfl, ?_⟩
    rw [← cx.2.2.2.2.2.2.2.2.2.2.2.2]
    exact hS.junk r1 r2 (by omega) c3 c4
theorem v_xVi (cx : dwCx g z M0 p l R s m args meth c own cc nL) {b ci n index L fr lo : Nat} {C : String} {y : MethodName} {code : ByteArray} {ret : Option FieldType} {As : List Value} {st0 : List Value} {x0 : dwR9 Int32} {K : Int32 → dwSt → Option ρ} {KX : Nat → Nat → dwSt → Option ρ} (hf : xth x0 K KX = some res) (hk : dwK M b = (0, ci) ∨ dwK M b = (10, ci)) (hC : (dwCc ci).1 = C) (hw : GoodIn lw_all (wsV own index C y (ws_ y code L ret))) (hd : y.cls = C ∧ y.cls ≠ "java/lang/invoke/MethodHandle" ∧ y.cls ≠ "java/lang/invoke/VarHandle" ∧ (parseMethodDescriptor y.desc).map (fun d => d.parameters.length) = some n) (hM : ∀ x M', x0 = some (x, M') → dwWX g l y (ws_ y code L ret) fr lo (.ref b :: As) M (fun r => some (.int r)) x M') (hfl : fr + 1 ≤ R.frames ∧ 8 + (L + 11) + lo ≤ R.locals) (hn : As.length = n) (hls : ls.size = nL) (hst : st0 = As.reverse ++ .ref b :: rest) (hrest : (rest.map fun v => v.category).sum ≤ 8) (hdg : decode cc pc = .ok (.invokevirtual index, 3)) (kx : ∀ cl q M', KX cl q M' = some res → dwT g z p l e R s m args below meth c M' Q (F0 m pc ls rest) cl q) (k : ∀ r M', K r M' = some res → dwV g z p l e R s m args below meth c M' Q (F0 m (pc + 3) ls (.int r :: rest))) : dwV g z p l e R s m args below meth c M Q (F0 m pc ls st0) := by
  obtain ⟨x, M', hx, h1, h2⟩ := xth_e hf
  exact v_callX cx (fun H locs cells slots hS hroom => vx_runV (dw_cf cx) (hM _ _ hx) (cwV n cx.2.2.2.2.2.1 hw rfl rfl rfl hd hfl) ⟨dw_blind, dw_recv cx hS hk hC, dw_pre cx hS⟩ rfl hn (hls) hst (lv_room hrest) hdg hroom) (fun r hr => k r M' (h1 r hr)) (fun cl q hr => kx cl q M' (h2 cl q hr))
theorem v_xVl (cx : dwCx g z M0 p l R s m args meth c own cc nL) {b ci n index L fr lo : Nat} {C : String} {y : MethodName} {code : ByteArray} {ret : Option FieldType} {As : List Value} {st0 : List Value} {x0 : dwR9 Int64} {K : Int64 → dwSt → Option ρ} {KX : Nat → Nat → dwSt → Option ρ} (hf : xth x0 K KX = some res) (hk : dwK M b = (0, ci) ∨ dwK M b = (10, ci)) (hC : (dwCc ci).1 = C) (hw : GoodIn lw_all (wsV own index C y (ws_ y code L ret))) (hd : y.cls = C ∧ y.cls ≠ "java/lang/invoke/MethodHandle" ∧ y.cls ≠ "java/lang/invoke/VarHandle" ∧ (parseMethodDescriptor y.desc).map (fun d => d.parameters.length) = some n) (hM : ∀ x M', x0 = some (x, M') → dwWX g l y (ws_ y code L ret) fr lo (.ref b :: As) M (fun r => some (.long r)) x M') (hfl : fr + 1 ≤ R.frames ∧ 8 + (L + 11) + lo ≤ R.locals) (hn : As.length = n) (hls : ls.size = nL) (hst : st0 = As.reverse ++ .ref b :: rest) (hrest : (rest.map fun v => v.category).sum ≤ 8) (hdg : decode cc pc = .ok (.invokevirtual index, 3)) (kx : ∀ cl q M', KX cl q M' = some res → dwT g z p l e R s m args below meth c M' Q (F0 m pc ls rest) cl q) (k : ∀ r M', K r M' = some res → dwV g z p l e R s m args below meth c M' Q (F0 m (pc + 3) ls (.long r :: rest))) : dwV g z p l e R s m args below meth c M Q (F0 m pc ls st0) := by
  obtain ⟨x, M', hx, h1, h2⟩ := xth_e hf
  exact v_callX cx (fun H locs cells slots hS hroom => vx_runV (dw_cf cx) (hM _ _ hx) (cwV n cx.2.2.2.2.2.1 hw rfl rfl rfl hd hfl) ⟨dw_blind, dw_recv cx hS hk hC, dw_pre cx hS⟩ rfl hn (hls) hst (lv_room hrest) hdg hroom) (fun r hr => k r M' (h1 r hr)) (fun cl q hr => kx cl q M' (h2 cl q hr))
theorem v_xVr (cx : dwCx g z M0 p l R s m args meth c own cc nL) {b ci n index L fr lo : Nat} {C : String} {y : MethodName} {code : ByteArray} {ret : Option FieldType} {As : List Value} {st0 : List Value} {x0 : dwR9 Nat} {K : Nat → dwSt → Option ρ} {KX : Nat → Nat → dwSt → Option ρ} (hf : xth x0 K KX = some res) (hk : dwK M b = (0, ci) ∨ dwK M b = (10, ci)) (hC : (dwCc ci).1 = C) (hw : GoodIn lw_all (wsV own index C y (ws_ y code L ret))) (hd : y.cls = C ∧ y.cls ≠ "java/lang/invoke/MethodHandle" ∧ y.cls ≠ "java/lang/invoke/VarHandle" ∧ (parseMethodDescriptor y.desc).map (fun d => d.parameters.length) = some n) (hM : ∀ x M', x0 = some (x, M') → dwWX g l y (ws_ y code L ret) fr lo (.ref b :: As) M (fun r => some (.ref r)) x M') (hfl : fr + 1 ≤ R.frames ∧ 8 + (L + 11) + lo ≤ R.locals) (hn : As.length = n) (hls : ls.size = nL) (hst : st0 = As.reverse ++ .ref b :: rest) (hrest : (rest.map fun v => v.category).sum ≤ 8) (hdg : decode cc pc = .ok (.invokevirtual index, 3)) (kx : ∀ cl q M', KX cl q M' = some res → dwT g z p l e R s m args below meth c M' Q (F0 m pc ls rest) cl q) (k : ∀ r M', K r M' = some res → dwV g z p l e R s m args below meth c M' Q (F0 m (pc + 3) ls (.ref r :: rest))) : dwV g z p l e R s m args below meth c M Q (F0 m pc ls st0) := by
  obtain ⟨x, M', hx, h1, h2⟩ := xth_e hf
  exact v_callX cx (fun H locs cells slots hS hroom => vx_runV (dw_cf cx) (hM _ _ hx) (cwV n cx.2.2.2.2.2.1 hw rfl rfl rfl hd hfl) ⟨dw_blind, dw_recv cx hS hk hC, dw_pre cx hS⟩ rfl hn (hls) hst (lv_room hrest) hdg hroom) (fun r hr => k r M' (h1 r hr)) (fun cl q hr => kx cl q M' (h2 cl q hr))
theorem v_xVv (cx : dwCx g z M0 p l R s m args meth c own cc nL) {b ci n index L fr lo : Nat} {C : String} {y : MethodName} {code : ByteArray} {ret : Option FieldType} {As : List Value} {st0 : List Value} {x0 : dwR9 Unit} {K : Unit → dwSt → Option ρ} {KX : Nat → Nat → dwSt → Option ρ} (hf : xth x0 K KX = some res) (hk : dwK M b = (0, ci) ∨ dwK M b = (10, ci)) (hC : (dwCc ci).1 = C) (hw : GoodIn lw_all (wsV own index C y (ws_ y code L ret))) (hd : y.cls = C ∧ y.cls ≠ "java/lang/invoke/MethodHandle" ∧ y.cls ≠ "java/lang/invoke/VarHandle" ∧ (parseMethodDescriptor y.desc).map (fun d => d.parameters.length) = some n) (hM : ∀ x M', x0 = some (x, M') → dwWX g l y (ws_ y code L ret) fr lo (.ref b :: As) M (fun _ => none) x M') (hfl : fr + 1 ≤ R.frames ∧ 8 + (L + 11) + lo ≤ R.locals) (hn : As.length = n) (hls : ls.size = nL) (hst : st0 = As.reverse ++ .ref b :: rest) (hrest : (rest.map fun v => v.category).sum ≤ 8) (hdg : decode cc pc = .ok (.invokevirtual index, 3)) (kx : ∀ cl q M', KX cl q M' = some res → dwT g z p l e R s m args below meth c M' Q (F0 m pc ls rest) cl q) (k : ∀ r M', K r M' = some res → dwV g z p l e R s m args below meth c M' Q (F0 m (pc + 3) ls (rest))) : dwV g z p l e R s m args below meth c M Q (F0 m pc ls st0) := by
  obtain ⟨x, M', hx, h1, h2⟩ := xth_e hf
  exact v_callX cx (fun H locs cells slots hS hroom => vx_runV (dw_cf cx) (hM _ _ hx) (cwV n cx.2.2.2.2.2.1 hw rfl rfl rfl hd hfl) ⟨dw_blind, dw_recv cx hS hk hC, dw_pre cx hS⟩ rfl hn (hls) hst (lv_room hrest) hdg hroom) (fun r hr => k r M' (h1 r hr)) (fun cl q hr => kx cl q M' (h2 cl q hr))
theorem v_xSi (cx : dwCx g z M0 p l R s m args meth c own cc nL) {n index L fr lo : Nat} {y : MethodName} {code : ByteArray} {ret : Option FieldType} {As : List Value} {st0 : List Value} {x0 : dwR9 Int32} {K : Int32 → dwSt → Option ρ} {KX : Nat → Nat → dwSt → Option ρ} (hf : xth x0 K KX = some res) (hw : GoodIn lw_all (va_wsS own index y (ws_ y code L ret))) (hd : y.cls ≠ "java/lang/invoke/MethodHandle" ∧ y.cls ≠ "java/lang/invoke/VarHandle" ∧ (parseMethodDescriptor y.desc).map (fun d => d.parameters.length) = some n) (hM : ∀ x M', x0 = some (x, M') → dwWX g l y (ws_ y code L ret) fr lo As M (fun r => some (.int r)) x M') (hfl : fr + 1 ≤ R.frames ∧ 8 + (L + 11) + lo ≤ R.locals) (hn : As.length = n) (hls : ls.size = nL) (hst : st0 = As.reverse ++ rest) (hrest : (rest.map fun v => v.category).sum ≤ 8) (hdg : decode cc pc = .ok (.invokestatic index, 3)) (kx : ∀ cl q M', KX cl q M' = some res → dwT g z p l e R s m args below meth c M' Q (F0 m pc ls rest) cl q) (k : ∀ r M', K r M' = some res → dwV g z p l e R s m args below meth c M' Q (F0 m (pc + 3) ls (.int r :: rest))) : dwV g z p l e R s m args below meth c M Q (F0 m pc ls st0) := by
  obtain ⟨x, M', hx, h1, h2⟩ := xth_e hf
  exact v_callX cx (fun H locs cells slots hS hroom => vx_runS (dw_cf cx) (hM _ _ hx) (va_cwS n cx.2.2.2.2.2.1 hw rfl rfl rfl hd hfl) ⟨dw_blind, dw_pre cx hS⟩ rfl hn (hls) hst (lv_room hrest) hdg hroom) (fun r hr => k r M' (h1 r hr)) (fun cl q hr => kx cl q M' (h2 cl q hr))
theorem v_xSl (cx : dwCx g z M0 p l R s m args meth c own cc nL) {n index L fr lo : Nat} {y : MethodName} {code : ByteArray} {ret : Option FieldType} {As : List Value} {st0 : List Value} {x0 : dwR9 Int64} {K : Int64 → dwSt → Option ρ} {KX : Nat → Nat → dwSt → Option ρ} (hf : xth x0 K KX = some res) (hw : GoodIn lw_all (va_wsS own index y (ws_ y code L ret))) (hd : y.cls ≠ "java/lang/invoke/MethodHandle" ∧ y.cls ≠ "java/lang/invoke/VarHandle" ∧ (parseMethodDescriptor y.desc).map (fun d => d.parameters.length) = some n) (hM : ∀ x M', x0 = some (x, M') → dwWX g l y (ws_ y code L ret) fr lo As M (fun r => some (.long r)) x M') (hfl : fr + 1 ≤ R.frames ∧ 8 + (L + 11) + lo ≤ R.locals) (hn : As.length = n) (hls : ls.size = nL) (hst : st0 = As.reverse ++ rest) (hrest : (rest.map fun v => v.category).sum ≤ 8) (hdg : decode cc pc = .ok (.invokestatic index, 3)) (kx : ∀ cl q M', KX cl q M' = some res → dwT g z p l e R s m args below meth c M' Q (F0 m pc ls rest) cl q) (k : ∀ r M', K r M' = some res → dwV g z p l e R s m args below meth c M' Q (F0 m (pc + 3) ls (.long r :: rest))) : dwV g z p l e R s m args below meth c M Q (F0 m pc ls st0) := by
  obtain ⟨x, M', hx, h1, h2⟩ := xth_e hf
  exact v_callX cx (fun H locs cells slots hS hroom => vx_runS (dw_cf cx) (hM _ _ hx) (va_cwS n cx.2.2.2.2.2.1 hw rfl rfl rfl hd hfl) ⟨dw_blind, dw_pre cx hS⟩ rfl hn (hls) hst (lv_room hrest) hdg hroom) (fun r hr => k r M' (h1 r hr)) (fun cl q hr => kx cl q M' (h2 cl q hr))
theorem v_xSr (cx : dwCx g z M0 p l R s m args meth c own cc nL) {n index L fr lo : Nat} {y : MethodName} {code : ByteArray} {ret : Option FieldType} {As : List Value} {st0 : List Value} {x0 : dwR9 Nat} {K : Nat → dwSt → Option ρ} {KX : Nat → Nat → dwSt → Option ρ} (hf : xth x0 K KX = some res) (hw : GoodIn lw_all (va_wsS own index y (ws_ y code L ret))) (hd : y.cls ≠ "java/lang/invoke/MethodHandle" ∧ y.cls ≠ "java/lang/invoke/VarHandle" ∧ (parseMethodDescriptor y.desc).map (fun d => d.parameters.length) = some n) (hM : ∀ x M', x0 = some (x, M') → dwWX g l y (ws_ y code L ret) fr lo As M (fun r => some (.ref r)) x M') (hfl : fr + 1 ≤ R.frames ∧ 8 + (L + 11) + lo ≤ R.locals) (hn : As.length = n) (hls : ls.size = nL) (hst : st0 = As.reverse ++ rest) (hrest : (rest.map fun v => v.category).sum ≤ 8) (hdg : decode cc pc = .ok (.invokestatic index, 3)) (kx : ∀ cl q M', KX cl q M' = some res → dwT g z p l e R s m args below meth c M' Q (F0 m pc ls rest) cl q) (k : ∀ r M', K r M' = some res → dwV g z p l e R s m args below meth c M' Q (F0 m (pc + 3) ls (.ref r :: rest))) : dwV g z p l e R s m args below meth c M Q (F0 m pc ls st0) := by
  obtain ⟨x, M', hx, h1, h2⟩ := xth_e hf
  exact v_callX cx (fun H locs cells slots hS hroom => vx_runS (dw_cf cx) (hM _ _ hx) (va_cwS n cx.2.2.2.2.2.1 hw rfl rfl rfl hd hfl) ⟨dw_blind, dw_pre cx hS⟩ rfl hn (hls) hst (lv_room hrest) hdg hroom) (fun r hr => k r M' (h1 r hr)) (fun cl q hr => kx cl q M' (h2 cl q hr))
theorem v_xSv (cx : dwCx g z M0 p l R s m args meth c own cc nL) {n index L fr lo : Nat} {y : MethodName} {code : ByteArray} {ret : Option FieldType} {As : List Value} {st0 : List Value} {x0 : dwR9 Unit} {K : Unit → dwSt → Option ρ} {KX : Nat → Nat → dwSt → Option ρ} (hf : xth x0 K KX = some res) (hw : GoodIn lw_all (va_wsS own index y (ws_ y code L ret))) (hd : y.cls ≠ "java/lang/invoke/MethodHandle" ∧ y.cls ≠ "java/lang/invoke/VarHandle" ∧ (parseMethodDescriptor y.desc).map (fun d => d.parameters.length) = some n) (hM : ∀ x M', x0 = some (x, M') → dwWX g l y (ws_ y code L ret) fr lo As M (fun _ => none) x M') (hfl : fr + 1 ≤ R.frames ∧ 8 + (L + 11) + lo ≤ R.locals) (hn : As.length = n) (hls : ls.size = nL) (hst : st0 = As.reverse ++ rest) (hrest : (rest.map fun v => v.category).sum ≤ 8) (hdg : decode cc pc = .ok (.invokestatic index, 3)) (kx : ∀ cl q M', KX cl q M' = some res → dwT g z p l e R s m args below meth c M' Q (F0 m pc ls rest) cl q) (k : ∀ r M', K r M' = some res → dwV g z p l e R s m args below meth c M' Q (F0 m (pc + 3) ls (rest))) : dwV g z p l e R s m args below meth c M Q (F0 m pc ls st0) := by
  obtain ⟨x, M', hx, h1, h2⟩ := xth_e hf
  exact v_callX cx (fun H locs cells slots hS hroom => vx_runS (dw_cf cx) (hM _ _ hx) (va_cwS n cx.2.2.2.2.2.1 hw rfl rfl rfl hd hfl) ⟨dw_blind, dw_pre cx hS⟩ rfl hn (hls) hst (lv_room hrest) hdg hroom) (fun r hr => k r M' (h1 r hr)) (fun cl q hr => kx cl q M' (h2 cl q hr))
theorem v_xUi (cx : dwCx g z M0 p l R s m args meth c own cc nL) {b ci n index L fr lo : Nat} {C owner : String} {x y : MethodName} {code : ByteArray} {ret : Option FieldType} {As : List Value} {st0 : List Value} {x0 : dwR9 Int32} {K : Int32 → dwSt → Option ρ} {KX : Nat → Nat → dwSt → Option ρ} (hf : xth x0 K KX = some res) (hk : dwK M b = (0, ci) ∨ dwK M b = (10, ci)) (hC : (dwCc ci).1 = C) (hw : Cond.code y code L ret ∈ lw_all) (hlk : Cond.methodLink own index x ∈ lw_all) (hsa : Cond.sameMethod x.cls owner x.name x.desc ∈ lw_all) (hse : Cond.selects C x y ∈ lw_all) (hin : Cond.instanceMethod y ∈ lw_all) (hini : Cond.initialized y.cls ∈ lw_all) (hyx : y = ⟨owner, x.name, x.desc⟩ ∨ Cond.declares ⟨owner, x.name, x.desc⟩ ∈ lw_tbl ∨ (Cond.instanceMethod ⟨owner, x.name, x.desc⟩ ∈ lw_all ∧ ∃ b m r, Cond.code ⟨owner, x.name, x.desc⟩ b m r ∈ lw_all)) (hd : owner ≠ "java/lang/invoke/MethodHandle" ∧ owner ≠ "java/lang/invoke/VarHandle" ∧ (parseMethodDescriptor x.desc).map (fun d => d.parameters.length) = some n) (hM : ∀ x M', x0 = some (x, M') → dwWX g l y (ws_ y code L ret) fr lo (.ref b :: As) M (fun r => some (.int r)) x M') (hfl : fr + 1 ≤ R.frames ∧ 8 + (L + 11) + lo ≤ R.locals) (hn : As.length = n) (hls : ls.size = nL) (hst : st0 = As.reverse ++ .ref b :: rest) (hrest : (rest.map fun v => v.category).sum ≤ 8) (hdg : decode cc pc = .ok (.invokevirtual index, 3)) (kx : ∀ cl q M', KX cl q M' = some res → dwT g z p l e R s m args below meth c M' Q (F0 m pc ls rest) cl q) (k : ∀ r M', K r M' = some res → dwV g z p l e R s m args below meth c M' Q (F0 m (pc + 3) ls (.int r :: rest))) : dwV g z p l e R s m args below meth c M Q (F0 m pc ls st0) := by
  obtain ⟨x, M', hx, h1, h2⟩ := xth_e hf
  exact v_callX cx (fun H locs cells slots hS hroom => vx_runU (dw_cf cx) (hM _ _ hx) (dw_cwU cx hw hlk hsa hse hin hini hyx hd hfl) ⟨dw_blind, dw_recv cx hS hk hC, dw_pre cx hS⟩ rfl hn (hls) hst (lv_room hrest) hdg hroom) (fun r hr => k r M' (h1 r hr)) (fun cl q hr => kx cl q M' (h2 cl q hr))
theorem v_xUl (cx : dwCx g z M0 p l R s m args meth c own cc nL) {b ci n index L fr lo : Nat} {C owner : String} {x y : MethodName} {code : ByteArray} {ret : Option FieldType} {As : List Value} {st0 : List Value} {x0 : dwR9 Int64} {K : Int64 → dwSt → Option ρ} {KX : Nat → Nat → dwSt → Option ρ} (hf : xth x0 K KX = some res) (hk : dwK M b = (0, ci) ∨ dwK M b = (10, ci)) (hC : (dwCc ci).1 = C) (hw : Cond.code y code L ret ∈ lw_all) (hlk : Cond.methodLink own index x ∈ lw_all) (hsa : Cond.sameMethod x.cls owner x.name x.desc ∈ lw_all) (hse : Cond.selects C x y ∈ lw_all) (hin : Cond.instanceMethod y ∈ lw_all) (hini : Cond.initialized y.cls ∈ lw_all) (hyx : y = ⟨owner, x.name, x.desc⟩ ∨ Cond.declares ⟨owner, x.name, x.desc⟩ ∈ lw_tbl ∨ (Cond.instanceMethod ⟨owner, x.name, x.desc⟩ ∈ lw_all ∧ ∃ b m r, Cond.code ⟨owner, x.name, x.desc⟩ b m r ∈ lw_all)) (hd : owner ≠ "java/lang/invoke/MethodHandle" ∧ owner ≠ "java/lang/invoke/VarHandle" ∧ (parseMethodDescriptor x.desc).map (fun d => d.parameters.length) = some n) (hM : ∀ x M', x0 = some (x, M') → dwWX g l y (ws_ y code L ret) fr lo (.ref b :: As) M (fun r => some (.long r)) x M') (hfl : fr + 1 ≤ R.frames ∧ 8 + (L + 11) + lo ≤ R.locals) (hn : As.length = n) (hls : ls.size = nL) (hst : st0 = As.reverse ++ .ref b :: rest) (hrest : (rest.map fun v => v.category).sum ≤ 8) (hdg : decode cc pc = .ok (.invokevirtual index, 3)) (kx : ∀ cl q M', KX cl q M' = some res → dwT g z p l e R s m args below meth c M' Q (F0 m pc ls rest) cl q) (k : ∀ r M', K r M' = some res → dwV g z p l e R s m args below meth c M' Q (F0 m (pc + 3) ls (.long r :: rest))) : dwV g z p l e R s m args below meth c M Q (F0 m pc ls st0) := by
  obtain ⟨x, M', hx, h1, h2⟩ := xth_e hf
  exact v_callX cx (fun H locs cells slots hS hroom => vx_runU (dw_cf cx) (hM _ _ hx) (dw_cwU cx hw hlk hsa hse hin hini hyx hd hfl) ⟨dw_blind, dw_recv cx hS hk hC, dw_pre cx hS⟩ rfl hn (hls) hst (lv_room hrest) hdg hroom) (fun r hr => k r M' (h1 r hr)) (fun cl q hr => kx cl q M' (h2 cl q hr))
theorem v_xUr (cx : dwCx g z M0 p l R s m args meth c own cc nL) {b ci n index L fr lo : Nat} {C owner : String} {x y : MethodName} {code : ByteArray} {ret : Option FieldType} {As : List Value} {st0 : List Value} {x0 : dwR9 Nat} {K : Nat → dwSt → Option ρ} {KX : Nat → Nat → dwSt → Option ρ} (hf : xth x0 K KX = some res) (hk : dwK M b = (0, ci) ∨ dwK M b = (10, ci)) (hC : (dwCc ci).1 = C) (hw : Cond.code y code L ret ∈ lw_all) (hlk : Cond.methodLink own index x ∈ lw_all) (hsa : Cond.sameMethod x.cls owner x.name x.desc ∈ lw_all) (hse : Cond.selects C x y ∈ lw_all) (hin : Cond.instanceMethod y ∈ lw_all) (hini : Cond.initialized y.cls ∈ lw_all) (hyx : y = ⟨owner, x.name, x.desc⟩ ∨ Cond.declares ⟨owner, x.name, x.desc⟩ ∈ lw_tbl ∨ (Cond.instanceMethod ⟨owner, x.name, x.desc⟩ ∈ lw_all ∧ ∃ b m r, Cond.code ⟨owner, x.name, x.desc⟩ b m r ∈ lw_all)) (hd : owner ≠ "java/lang/invoke/MethodHandle" ∧ owner ≠ "java/lang/invoke/VarHandle" ∧ (parseMethodDescriptor x.desc).map (fun d => d.parameters.length) = some n) (hM : ∀ x M', x0 = some (x, M') → dwWX g l y (ws_ y code L ret) fr lo (.ref b :: As) M (fun r => some (.ref r)) x M') (hfl : fr + 1 ≤ R.frames ∧ 8 + (L + 11) + lo ≤ R.locals) (hn : As.length = n) (hls : ls.size = nL) (hst : st0 = As.reverse ++ .ref b :: rest) (hrest : (rest.map fun v => v.category).sum ≤ 8) (hdg : decode cc pc = .ok (.invokevirtual index, 3)) (kx : ∀ cl q M', KX cl q M' = some res → dwT g z p l e R s m args below meth c M' Q (F0 m pc ls rest) cl q) (k : ∀ r M', K r M' = some res → dwV g z p l e R s m args below meth c M' Q (F0 m (pc + 3) ls (.ref r :: rest))) : dwV g z p l e R s m args below meth c M Q (F0 m pc ls st0) := by
  obtain ⟨x, M', hx, h1, h2⟩ := xth_e hf
  exact v_callX cx (fun H locs cells slots hS hroom => vx_runU (dw_cf cx) (hM _ _ hx) (dw_cwU cx hw hlk hsa hse hin hini hyx hd hfl) ⟨dw_blind, dw_recv cx hS hk hC, dw_pre cx hS⟩ rfl hn (hls) hst (lv_room hrest) hdg hroom) (fun r hr => k r M' (h1 r hr)) (fun cl q hr => kx cl q M' (h2 cl q hr))
theorem v_xUv (cx : dwCx g z M0 p l R s m args meth c own cc nL) {b ci n index L fr lo : Nat} {C owner : String} {x y : MethodName} {code : ByteArray} {ret : Option FieldType} {As : List Value} {st0 : List Value} {x0 : dwR9 Unit} {K : Unit → dwSt → Option ρ} {KX : Nat → Nat → dwSt → Option ρ} (hf : xth x0 K KX = some res) (hk : dwK M b = (0, ci) ∨ dwK M b = (10, ci)) (hC : (dwCc ci).1 = C) (hw : Cond.code y code L ret ∈ lw_all) (hlk : Cond.methodLink own index x ∈ lw_all) (hsa : Cond.sameMethod x.cls owner x.name x.desc ∈ lw_all) (hse : Cond.selects C x y ∈ lw_all) (hin : Cond.instanceMethod y ∈ lw_all) (hini : Cond.initialized y.cls ∈ lw_all) (hyx : y = ⟨owner, x.name, x.desc⟩ ∨ Cond.declares ⟨owner, x.name, x.desc⟩ ∈ lw_tbl ∨ (Cond.instanceMethod ⟨owner, x.name, x.desc⟩ ∈ lw_all ∧ ∃ b m r, Cond.code ⟨owner, x.name, x.desc⟩ b m r ∈ lw_all)) (hd : owner ≠ "java/lang/invoke/MethodHandle" ∧ owner ≠ "java/lang/invoke/VarHandle" ∧ (parseMethodDescriptor x.desc).map (fun d => d.parameters.length) = some n) (hM : ∀ x M', x0 = some (x, M') → dwWX g l y (ws_ y code L ret) fr lo (.ref b :: As) M (fun _ => none) x M') (hfl : fr + 1 ≤ R.frames ∧ 8 + (L + 11) + lo ≤ R.locals) (hn : As.length = n) (hls : ls.size = nL) (hst : st0 = As.reverse ++ .ref b :: rest) (hrest : (rest.map fun v => v.category).sum ≤ 8) (hdg : decode cc pc = .ok (.invokevirtual index, 3)) (kx : ∀ cl q M', KX cl q M' = some res → dwT g z p l e R s m args below meth c M' Q (F0 m pc ls rest) cl q) (k : ∀ r M', K r M' = some res → dwV g z p l e R s m args below meth c M' Q (F0 m (pc + 3) ls (rest))) : dwV g z p l e R s m args below meth c M Q (F0 m pc ls st0) := by
  obtain ⟨x, M', hx, h1, h2⟩ := xth_e hf
  exact v_callX cx (fun H locs cells slots hS hroom => vx_runU (dw_cf cx) (hM _ _ hx) (dw_cwU cx hw hlk hsa hse hin hini hyx hd hfl) ⟨dw_blind, dw_recv cx hS hk hC, dw_pre cx hS⟩ rfl hn (hls) hst (lv_room hrest) hdg hroom) (fun r hr => k r M' (h1 r hr)) (fun cl q hr => kx cl q M' (h2 cl q hr))
theorem v_xMi (cx : dwCx g z M0 p l R s m args meth c own cc nL) {b n index L fr lo : Nat} {cs : List Nat} {owner : String} {x y : MethodName} {code : ByteArray} {ret : Option FieldType} {As : List Value} {st0 : List Value} {x0 : dwR9 Int32} {K : Int32 → dwSt → Option ρ} {KX : Nat → Nat → dwSt → Option ρ} (hf : xth x0 K KX = some res) (hk : (dwK M b).1 = 0 ∧ cs.contains (dwK M b).2 = true) (hw : Cond.code y code L ret ∈ lw_all) (hlk : Cond.methodLink own index x ∈ lw_all) (hsa : Cond.sameMethod x.cls owner x.name x.desc ∈ lw_all) (hse : ∀ ci ∈ cs, Cond.selects (dwCc ci).1 x y ∈ lw_all) (hin : Cond.instanceMethod y ∈ lw_all) (hini : Cond.initialized y.cls ∈ lw_all) (hyx : y = ⟨owner, x.name, x.desc⟩ ∨ Cond.declares ⟨owner, x.name, x.desc⟩ ∈ lw_tbl ∨ (Cond.instanceMethod ⟨owner, x.name, x.desc⟩ ∈ lw_all ∧ ∃ b m r, Cond.code ⟨owner, x.name, x.desc⟩ b m r ∈ lw_all)) (hd : owner ≠ "java/lang/invoke/MethodHandle" ∧ owner ≠ "java/lang/invoke/VarHandle" ∧ (parseMethodDescriptor x.desc).map (fun d => d.parameters.length) = some n) (hM : ∀ x M', x0 = some (x, M') → dwWX g l y (ws_ y code L ret) fr lo (.ref b :: As) M (fun r => some (.int r)) x M') (hfl : fr + 1 ≤ R.frames ∧ 8 + (L + 11) + lo ≤ R.locals) (hn : As.length = n) (hls : ls.size = nL) (hst : st0 = As.reverse ++ .ref b :: rest) (hrest : (rest.map fun v => v.category).sum ≤ 8) (hdg : decode cc pc = .ok (.invokevirtual index, 3)) (kx : ∀ cl q M', KX cl q M' = some res → dwT g z p l e R s m args below meth c M' Q (F0 m pc ls rest) cl q) (k : ∀ r M', K r M' = some res → dwV g z p l e R s m args below meth c M' Q (F0 m (pc + 3) ls (.int r :: rest))) : dwV g z p l e R s m args below meth c M Q (F0 m pc ls st0) := by
  obtain ⟨x, M', hx, h1, h2⟩ := xth_e hf
  exact v_callX cx (fun H locs cells slots hS hroom => vx_runU (dw_cf cx) (hM _ _ hx) (dw_cwU cx hw hlk hsa (hse _ (List.contains_iff_mem.mp hk.2)) hin hini hyx hd hfl) ⟨dw_blind, dw_recv cx hS (Or.inl (Prod.ext hk.1 rfl)) rfl, dw_pre cx hS⟩ rfl hn (hls) hst (lv_room hrest) hdg hroom) (fun r hr => k r M' (h1 r hr)) (fun cl q hr => kx cl q M' (h2 cl q hr))
theorem v_xMl (cx : dwCx g z M0 p l R s m args meth c own cc nL) {b n index L fr lo : Nat} {cs : List Nat} {owner : String} {x y : MethodName} {code : ByteArray} {ret : Option FieldType} {As : List Value} {st0 : List Value} {x0 : dwR9 Int64} {K : Int64 → dwSt → Option ρ} {KX : Nat → Nat → dwSt → Option ρ} (hf : xth x0 K KX = some res) (hk : (dwK M b).1 = 0 ∧ cs.contains (dwK M b).2 = true) (hw : Cond.code y code L ret ∈ lw_all) (hlk : Cond.methodLink own index x ∈ lw_all) (hsa : Cond.sameMethod x.cls owner x.name x.desc ∈ lw_all) (hse : ∀ ci ∈ cs, Cond.selects (dwCc ci).1 x y ∈ lw_all) (hin : Cond.instanceMethod y ∈ lw_all) (hini : Cond.initialized y.cls ∈ lw_all) (hyx : y = ⟨owner, x.name, x.desc⟩ ∨ Cond.declares ⟨owner, x.name, x.desc⟩ ∈ lw_tbl ∨ (Cond.instanceMethod ⟨owner, x.name, x.desc⟩ ∈ lw_all ∧ ∃ b m r, Cond.code ⟨owner, x.name, x.desc⟩ b m r ∈ lw_all)) (hd : owner ≠ "java/lang/invoke/MethodHandle" ∧ owner ≠ "java/lang/invoke/VarHandle" ∧ (parseMethodDescriptor x.desc).map (fun d => d.parameters.length) = some n) (hM : ∀ x M', x0 = some (x, M') → dwWX g l y (ws_ y code L ret) fr lo (.ref b :: As) M (fun r => some (.long r)) x M') (hfl : fr + 1 ≤ R.frames ∧ 8 + (L + 11) + lo ≤ R.locals) (hn : As.length = n) (hls : ls.size = nL) (hst : st0 = As.reverse ++ .ref b :: rest) (hrest : (rest.map fun v => v.category).sum ≤ 8) (hdg : decode cc pc = .ok (.invokevirtual index, 3)) (kx : ∀ cl q M', KX cl q M' = some res → dwT g z p l e R s m args below meth c M' Q (F0 m pc ls rest) cl q) (k : ∀ r M', K r M' = some res → dwV g z p l e R s m args below meth c M' Q (F0 m (pc + 3) ls (.long r :: rest))) : dwV g z p l e R s m args below meth c M Q (F0 m pc ls st0) := by
  obtain ⟨x, M', hx, h1, h2⟩ := xth_e hf
  exact v_callX cx (fun H locs cells slots hS hroom => vx_runU (dw_cf cx) (hM _ _ hx) (dw_cwU cx hw hlk hsa (hse _ (List.contains_iff_mem.mp hk.2)) hin hini hyx hd hfl) ⟨dw_blind, dw_recv cx hS (Or.inl (Prod.ext hk.1 rfl)) rfl, dw_pre cx hS⟩ rfl hn (hls) hst (lv_room hrest) hdg hroom) (fun r hr => k r M' (h1 r hr)) (fun cl q hr => kx cl q M' (h2 cl q hr))
theorem v_xMr (cx : dwCx g z M0 p l R s m args meth c own cc nL) {b n index L fr lo : Nat} {cs : List Nat} {owner : String} {x y : MethodName} {code : ByteArray} {ret : Option FieldType} {As : List Value} {st0 : List Value} {x0 : dwR9 Nat} {K : Nat → dwSt → Option ρ} {KX : Nat → Nat → dwSt → Option ρ} (hf : xth x0 K KX = some res) (hk : (dwK M b).1 = 0 ∧ cs.contains (dwK M b).2 = true) (hw : Cond.code y code L ret ∈ lw_all) (hlk : Cond.methodLink own index x ∈ lw_all) (hsa : Cond.sameMethod x.cls owner x.name x.desc ∈ lw_all) (hse : ∀ ci ∈ cs, Cond.selects (dwCc ci).1 x y ∈ lw_all) (hin : Cond.instanceMethod y ∈ lw_all) (hini : Cond.initialized y.cls ∈ lw_all) (hyx : y = ⟨owner, x.name, x.desc⟩ ∨ Cond.declares ⟨owner, x.name, x.desc⟩ ∈ lw_tbl ∨ (Cond.instanceMethod ⟨owner, x.name, x.desc⟩ ∈ lw_all ∧ ∃ b m r, Cond.code ⟨owner, x.name, x.desc⟩ b m r ∈ lw_all)) (hd : owner ≠ "java/lang/invoke/MethodHandle" ∧ owner ≠ "java/lang/invoke/VarHandle" ∧ (parseMethodDescriptor x.desc).map (fun d => d.parameters.length) = some n) (hM : ∀ x M', x0 = some (x, M') → dwWX g l y (ws_ y code L ret) fr lo (.ref b :: As) M (fun r => some (.ref r)) x M') (hfl : fr + 1 ≤ R.frames ∧ 8 + (L + 11) + lo ≤ R.locals) (hn : As.length = n) (hls : ls.size = nL) (hst : st0 = As.reverse ++ .ref b :: rest) (hrest : (rest.map fun v => v.category).sum ≤ 8) (hdg : decode cc pc = .ok (.invokevirtual index, 3)) (kx : ∀ cl q M', KX cl q M' = some res → dwT g z p l e R s m args below meth c M' Q (F0 m pc ls rest) cl q) (k : ∀ r M', K r M' = some res → dwV g z p l e R s m args below meth c M' Q (F0 m (pc + 3) ls (.ref r :: rest))) : dwV g z p l e R s m args below meth c M Q (F0 m pc ls st0) := by
  obtain ⟨x, M', hx, h1, h2⟩ := xth_e hf
  exact v_callX cx (fun H locs cells slots hS hroom => vx_runU (dw_cf cx) (hM _ _ hx) (dw_cwU cx hw hlk hsa (hse _ (List.contains_iff_mem.mp hk.2)) hin hini hyx hd hfl) ⟨dw_blind, dw_recv cx hS (Or.inl (Prod.ext hk.1 rfl)) rfl, dw_pre cx hS⟩ rfl hn (hls) hst (lv_room hrest) hdg hroom) (fun r hr => k r M' (h1 r hr)) (fun cl q hr => kx cl q M' (h2 cl q hr))
theorem v_xMv (cx : dwCx g z M0 p l R s m args meth c own cc nL) {b n index L fr lo : Nat} {cs : List Nat} {owner : String} {x y : MethodName} {code : ByteArray} {ret : Option FieldType} {As : List Value} {st0 : List Value} {x0 : dwR9 Unit} {K : Unit → dwSt → Option ρ} {KX : Nat → Nat → dwSt → Option ρ} (hf : xth x0 K KX = some res) (hk : (dwK M b).1 = 0 ∧ cs.contains (dwK M b).2 = true) (hw : Cond.code y code L ret ∈ lw_all) (hlk : Cond.methodLink own index x ∈ lw_all) (hsa : Cond.sameMethod x.cls owner x.name x.desc ∈ lw_all) (hse : ∀ ci ∈ cs, Cond.selects (dwCc ci).1 x y ∈ lw_all) (hin : Cond.instanceMethod y ∈ lw_all) (hini : Cond.initialized y.cls ∈ lw_all) (hyx : y = ⟨owner, x.name, x.desc⟩ ∨ Cond.declares ⟨owner, x.name, x.desc⟩ ∈ lw_tbl ∨ (Cond.instanceMethod ⟨owner, x.name, x.desc⟩ ∈ lw_all ∧ ∃ b m r, Cond.code ⟨owner, x.name, x.desc⟩ b m r ∈ lw_all)) (hd : owner ≠ "java/lang/invoke/MethodHandle" ∧ owner ≠ "java/lang/invoke/VarHandle" ∧ (parseMethodDescriptor x.desc).map (fun d => d.parameters.length) = some n) (hM : ∀ x M', x0 = some (x, M') → dwWX g l y (ws_ y code L ret) fr lo (.ref b :: As) M (fun _ => none) x M') (hfl : fr + 1 ≤ R.frames ∧ 8 + (L + 11) + lo ≤ R.locals) (hn : As.length = n) (hls : ls.size = nL) (hst : st0 = As.reverse ++ .ref b :: rest) (hrest : (rest.map fun v => v.category).sum ≤ 8) (hdg : decode cc pc = .ok (.invokevirtual index, 3)) (kx : ∀ cl q M', KX cl q M' = some res → dwT g z p l e R s m args below meth c M' Q (F0 m pc ls rest) cl q) (k : ∀ r M', K r M' = some res → dwV g z p l e R s m args below meth c M' Q (F0 m (pc + 3) ls (rest))) : dwV g z p l e R s m args below meth c M Q (F0 m pc ls st0) := by
  obtain ⟨x, M', hx, h1, h2⟩ := xth_e hf
  exact v_callX cx (fun H locs cells slots hS hroom => vx_runU (dw_cf cx) (hM _ _ hx) (dw_cwU cx hw hlk hsa (hse _ (List.contains_iff_mem.mp hk.2)) hin hini hyx hd hfl) ⟨dw_blind, dw_recv cx hS (Or.inl (Prod.ext hk.1 rfl)) rfl, dw_pre cx hS⟩ rfl hn (hls) hst (lv_room hrest) hdg hroom) (fun r hr => k r M' (h1 r hr)) (fun cl q hr => kx cl q M' (h2 cl q hr))
theorem v_xVHi (cx : dwCx g z M0 p l R s m args meth c own cc nL) {b ci n index L fr lo : Nat} {C : String} {y : MethodName} {code : ByteArray} {ret : Option FieldType} {hh : List (Nat × Nat × Nat × Nat)} {As : List Value} {st0 : List Value} {x0 : dwR9 Int32} {K : Int32 → dwSt → Option ρ} {KX : Nat → Nat → dwSt → Option ρ} (hf : xth x0 K KX = some res) (hk : dwK M b = (0, ci) ∨ dwK M b = (10, ci)) (hC : (dwCc ci).1 = C) (hw : GoodIn lw_all (wsV own index C y (wsW_ y code L ret hh))) (hd : y.cls = C ∧ y.cls ≠ "java/lang/invoke/MethodHandle" ∧ y.cls ≠ "java/lang/invoke/VarHandle" ∧ (parseMethodDescriptor y.desc).map (fun d => d.parameters.length) = some n) (hM : ∀ x M', x0 = some (x, M') → dwWX g l y (wsW_ y code L ret hh) fr lo (.ref b :: As) M (fun r => some (.int r)) x M') (hfl : fr + 1 ≤ R.frames ∧ 8 + (L + 11) + lo ≤ R.locals) (hn : As.length = n) (hls : ls.size = nL) (hst : st0 = As.reverse ++ .ref b :: rest) (hrest : (rest.map fun v => v.category).sum ≤ 8) (hdg : decode cc pc = .ok (.invokevirtual index, 3)) (kx : ∀ cl q M', KX cl q M' = some res → dwT g z p l e R s m args below meth c M' Q (F0 m pc ls rest) cl q) (k : ∀ r M', K r M' = some res → dwV g z p l e R s m args below meth c M' Q (F0 m (pc + 3) ls (.int r :: rest))) : dwV g z p l e R s m args below meth c M Q (F0 m pc ls st0) := by
  obtain ⟨x, M', hx, h1, h2⟩ := xth_e hf
  exact v_callX cx (fun H locs cells slots hS hroom => vx_runVX (dw_cf cx) (hM _ _ hx) (vx_cwVW n cx.2.2.2.2.2.1 hw rfl rfl rfl hd hfl) ⟨dw_blind, dw_recv cx hS hk hC, dw_pre cx hS⟩ rfl hn (hls) hst (lv_room hrest) hdg hroom) (fun r hr => k r M' (h1 r hr)) (fun cl q hr => kx cl q M' (h2 cl q hr))
theorem v_xVHl (cx : dwCx g z M0 p l R s m args meth c own cc nL) {b ci n index L fr lo : Nat} {C : String} {y : MethodName} {code : ByteArray} {ret : Option FieldType} {hh : List (Nat × Nat × Nat × Nat)} {As : List Value} {st0 : List Value} {x0 : dwR9 Int64} {K : Int64 → dwSt → Option ρ} {KX : Nat → Nat → dwSt → Option ρ} (hf : xth x0 K KX = some res) (hk : dwK M b = (0, ci) ∨ dwK M b = (10, ci)) (hC : (dwCc ci).1 = C) (hw : GoodIn lw_all (wsV own index C y (wsW_ y code L ret hh))) (hd : y.cls = C ∧ y.cls ≠ "java/lang/invoke/MethodHandle" ∧ y.cls ≠ "java/lang/invoke/VarHandle" ∧ (parseMethodDescriptor y.desc).map (fun d => d.parameters.length) = some n) (hM : ∀ x M', x0 = some (x, M') → dwWX g l y (wsW_ y code L ret hh) fr lo (.ref b :: As) M (fun r => some (.long r)) x M') (hfl : fr + 1 ≤ R.frames ∧ 8 + (L + 11) + lo ≤ R.locals) (hn : As.length = n) (hls : ls.size = nL) (hst : st0 = As.reverse ++ .ref b :: rest) (hrest : (rest.map fun v => v.category).sum ≤ 8) (hdg : decode cc pc = .ok (.invokevirtual index, 3)) (kx : ∀ cl q M', KX cl q M' = some res → dwT g z p l e R s m args below meth c M' Q (F0 m pc ls rest) cl q) (k : ∀ r M', K r M' = some res → dwV g z p l e R s m args below meth c M' Q (F0 m (pc + 3) ls (.long r :: rest))) : dwV g z p l e R s m args below meth c M Q (F0 m pc ls st0) := by
  obtain ⟨x, M', hx, h1, h2⟩ := xth_e hf
  exact v_callX cx (fun H locs cells slots hS hroom => vx_runVX (dw_cf cx) (hM _ _ hx) (vx_cwVW n cx.2.2.2.2.2.1 hw rfl rfl rfl hd hfl) ⟨dw_blind, dw_recv cx hS hk hC, dw_pre cx hS⟩ rfl hn (hls) hst (lv_room hrest) hdg hroom) (fun r hr => k r M' (h1 r hr)) (fun cl q hr => kx cl q M' (h2 cl q hr))
theorem v_xVHr (cx : dwCx g z M0 p l R s m args meth c own cc nL) {b ci n index L fr lo : Nat} {C : String} {y : MethodName} {code : ByteArray} {ret : Option FieldType} {hh : List (Nat × Nat × Nat × Nat)} {As : List Value} {st0 : List Value} {x0 : dwR9 Nat} {K : Nat → dwSt → Option ρ} {KX : Nat → Nat → dwSt → Option ρ} (hf : xth x0 K KX = some res) (hk : dwK M b = (0, ci) ∨ dwK M b = (10, ci)) (hC : (dwCc ci).1 = C) (hw : GoodIn lw_all (wsV own index C y (wsW_ y code L ret hh))) (hd : y.cls = C ∧ y.cls ≠ "java/lang/invoke/MethodHandle" ∧ y.cls ≠ "java/lang/invoke/VarHandle" ∧ (parseMethodDescriptor y.desc).map (fun d => d.parameters.length) = some n) (hM : ∀ x M', x0 = some (x, M') → dwWX g l y (wsW_ y code L ret hh) fr lo (.ref b :: As) M (fun r => some (.ref r)) x M') (hfl : fr + 1 ≤ R.frames ∧ 8 + (L + 11) + lo ≤ R.locals) (hn : As.length = n) (hls : ls.size = nL) (hst : st0 = As.reverse ++ .ref b :: rest) (hrest : (rest.map fun v => v.category).sum ≤ 8) (hdg : decode cc pc = .ok (.invokevirtual index, 3)) (kx : ∀ cl q M', KX cl q M' = some res → dwT g z p l e R s m args below meth c M' Q (F0 m pc ls rest) cl q) (k : ∀ r M', K r M' = some res → dwV g z p l e R s m args below meth c M' Q (F0 m (pc + 3) ls (.ref r :: rest))) : dwV g z p l e R s m args below meth c M Q (F0 m pc ls st0) := by
  obtain ⟨x, M', hx, h1, h2⟩ := xth_e hf
  exact v_callX cx (fun H locs cells slots hS hroom => vx_runVX (dw_cf cx) (hM _ _ hx) (vx_cwVW n cx.2.2.2.2.2.1 hw rfl rfl rfl hd hfl) ⟨dw_blind, dw_recv cx hS hk hC, dw_pre cx hS⟩ rfl hn (hls) hst (lv_room hrest) hdg hroom) (fun r hr => k r M' (h1 r hr)) (fun cl q hr => kx cl q M' (h2 cl q hr))
theorem v_xVHv (cx : dwCx g z M0 p l R s m args meth c own cc nL) {b ci n index L fr lo : Nat} {C : String} {y : MethodName} {code : ByteArray} {ret : Option FieldType} {hh : List (Nat × Nat × Nat × Nat)} {As : List Value} {st0 : List Value} {x0 : dwR9 Unit} {K : Unit → dwSt → Option ρ} {KX : Nat → Nat → dwSt → Option ρ} (hf : xth x0 K KX = some res) (hk : dwK M b = (0, ci) ∨ dwK M b = (10, ci)) (hC : (dwCc ci).1 = C) (hw : GoodIn lw_all (wsV own index C y (wsW_ y code L ret hh))) (hd : y.cls = C ∧ y.cls ≠ "java/lang/invoke/MethodHandle" ∧ y.cls ≠ "java/lang/invoke/VarHandle" ∧ (parseMethodDescriptor y.desc).map (fun d => d.parameters.length) = some n) (hM : ∀ x M', x0 = some (x, M') → dwWX g l y (wsW_ y code L ret hh) fr lo (.ref b :: As) M (fun _ => none) x M') (hfl : fr + 1 ≤ R.frames ∧ 8 + (L + 11) + lo ≤ R.locals) (hn : As.length = n) (hls : ls.size = nL) (hst : st0 = As.reverse ++ .ref b :: rest) (hrest : (rest.map fun v => v.category).sum ≤ 8) (hdg : decode cc pc = .ok (.invokevirtual index, 3)) (kx : ∀ cl q M', KX cl q M' = some res → dwT g z p l e R s m args below meth c M' Q (F0 m pc ls rest) cl q) (k : ∀ r M', K r M' = some res → dwV g z p l e R s m args below meth c M' Q (F0 m (pc + 3) ls (rest))) : dwV g z p l e R s m args below meth c M Q (F0 m pc ls st0) := by
  obtain ⟨x, M', hx, h1, h2⟩ := xth_e hf
  exact v_callX cx (fun H locs cells slots hS hroom => vx_runVX (dw_cf cx) (hM _ _ hx) (vx_cwVW n cx.2.2.2.2.2.1 hw rfl rfl rfl hd hfl) ⟨dw_blind, dw_recv cx hS hk hC, dw_pre cx hS⟩ rfl hn (hls) hst (lv_room hrest) hdg hroom) (fun r hr => k r M' (h1 r hr)) (fun cl q hr => kx cl q M' (h2 cl q hr))
theorem v_xSHi (cx : dwCx g z M0 p l R s m args meth c own cc nL) {n index L fr lo : Nat} {y : MethodName} {code : ByteArray} {ret : Option FieldType} {hh : List (Nat × Nat × Nat × Nat)} {As : List Value} {st0 : List Value} {x0 : dwR9 Int32} {K : Int32 → dwSt → Option ρ} {KX : Nat → Nat → dwSt → Option ρ} (hf : xth x0 K KX = some res) (hw : GoodIn lw_all (va_wsS own index y (wsW_ y code L ret hh))) (hd : y.cls ≠ "java/lang/invoke/MethodHandle" ∧ y.cls ≠ "java/lang/invoke/VarHandle" ∧ (parseMethodDescriptor y.desc).map (fun d => d.parameters.length) = some n) (hM : ∀ x M', x0 = some (x, M') → dwWX g l y (wsW_ y code L ret hh) fr lo As M (fun r => some (.int r)) x M') (hfl : fr + 1 ≤ R.frames ∧ 8 + (L + 11) + lo ≤ R.locals) (hn : As.length = n) (hls : ls.size = nL) (hst : st0 = As.reverse ++ rest) (hrest : (rest.map fun v => v.category).sum ≤ 8) (hdg : decode cc pc = .ok (.invokestatic index, 3)) (kx : ∀ cl q M', KX cl q M' = some res → dwT g z p l e R s m args below meth c M' Q (F0 m pc ls rest) cl q) (k : ∀ r M', K r M' = some res → dwV g z p l e R s m args below meth c M' Q (F0 m (pc + 3) ls (.int r :: rest))) : dwV g z p l e R s m args below meth c M Q (F0 m pc ls st0) := by
  obtain ⟨x, M', hx, h1, h2⟩ := xth_e hf
  exact v_callX cx (fun H locs cells slots hS hroom => vx_runSX (dw_cf cx) (hM _ _ hx) (vx_cwSW n cx.2.2.2.2.2.1 hw rfl rfl rfl hd hfl) ⟨dw_blind, dw_pre cx hS⟩ rfl hn (hls) hst (lv_room hrest) hdg hroom) (fun r hr => k r M' (h1 r hr)) (fun cl q hr => kx cl q M' (h2 cl q hr))
theorem v_xSHl (cx : dwCx g z M0 p l R s m args meth c own cc nL) {n index L fr lo : Nat} {y : MethodName} {code : ByteArray} {ret : Option FieldType} {hh : List (Nat × Nat × Nat × Nat)} {As : List Value} {st0 : List Value} {x0 : dwR9 Int64} {K : Int64 → dwSt → Option ρ} {KX : Nat → Nat → dwSt → Option ρ} (hf : xth x0 K KX = some res) (hw : GoodIn lw_all (va_wsS own index y (wsW_ y code L ret hh))) (hd : y.cls ≠ "java/lang/invoke/MethodHandle" ∧ y.cls ≠ "java/lang/invoke/VarHandle" ∧ (parseMethodDescriptor y.desc).map (fun d => d.parameters.length) = some n) (hM : ∀ x M', x0 = some (x, M') → dwWX g l y (wsW_ y code L ret hh) fr lo As M (fun r => some (.long r)) x M') (hfl : fr + 1 ≤ R.frames ∧ 8 + (L + 11) + lo ≤ R.locals) (hn : As.length = n) (hls : ls.size = nL) (hst : st0 = As.reverse ++ rest) (hrest : (rest.map fun v => v.category).sum ≤ 8) (hdg : decode cc pc = .ok (.invokestatic index, 3)) (kx : ∀ cl q M', KX cl q M' = some res → dwT g z p l e R s m args below meth c M' Q (F0 m pc ls rest) cl q) (k : ∀ r M', K r M' = some res → dwV g z p l e R s m args below meth c M' Q (F0 m (pc + 3) ls (.long r :: rest))) : dwV g z p l e R s m args below meth c M Q (F0 m pc ls st0) := by
  obtain ⟨x, M', hx, h1, h2⟩ := xth_e hf
  exact v_callX cx (fun H locs cells slots hS hroom => vx_runSX (dw_cf cx) (hM _ _ hx) (vx_cwSW n cx.2.2.2.2.2.1 hw rfl rfl rfl hd hfl) ⟨dw_blind, dw_pre cx hS⟩ rfl hn (hls) hst (lv_room hrest) hdg hroom) (fun r hr => k r M' (h1 r hr)) (fun cl q hr => kx cl q M' (h2 cl q hr))
theorem v_xSHr (cx : dwCx g z M0 p l R s m args meth c own cc nL) {n index L fr lo : Nat} {y : MethodName} {code : ByteArray} {ret : Option FieldType} {hh : List (Nat × Nat × Nat × Nat)} {As : List Value} {st0 : List Value} {x0 : dwR9 Nat} {K : Nat → dwSt → Option ρ} {KX : Nat → Nat → dwSt → Option ρ} (hf : xth x0 K KX = some res) (hw : GoodIn lw_all (va_wsS own index y (wsW_ y code L ret hh))) (hd : y.cls ≠ "java/lang/invoke/MethodHandle" ∧ y.cls ≠ "java/lang/invoke/VarHandle" ∧ (parseMethodDescriptor y.desc).map (fun d => d.parameters.length) = some n) (hM : ∀ x M', x0 = some (x, M') → dwWX g l y (wsW_ y code L ret hh) fr lo As M (fun r => some (.ref r)) x M') (hfl : fr + 1 ≤ R.frames ∧ 8 + (L + 11) + lo ≤ R.locals) (hn : As.length = n) (hls : ls.size = nL) (hst : st0 = As.reverse ++ rest) (hrest : (rest.map fun v => v.category).sum ≤ 8) (hdg : decode cc pc = .ok (.invokestatic index, 3)) (kx : ∀ cl q M', KX cl q M' = some res → dwT g z p l e R s m args below meth c M' Q (F0 m pc ls rest) cl q) (k : ∀ r M', K r M' = some res → dwV g z p l e R s m args below meth c M' Q (F0 m (pc + 3) ls (.ref r :: rest))) : dwV g z p l e R s m args below meth c M Q (F0 m pc ls st0) := by
  obtain ⟨x, M', hx, h1, h2⟩ := xth_e hf
  exact v_callX cx (fun H locs cells slots hS hroom => vx_runSX (dw_cf cx) (hM _ _ hx) (vx_cwSW n cx.2.2.2.2.2.1 hw rfl rfl rfl hd hfl) ⟨dw_blind, dw_pre cx hS⟩ rfl hn (hls) hst (lv_room hrest) hdg hroom) (fun r hr => k r M' (h1 r hr)) (fun cl q hr => kx cl q M' (h2 cl q hr))
theorem v_xSHv (cx : dwCx g z M0 p l R s m args meth c own cc nL) {n index L fr lo : Nat} {y : MethodName} {code : ByteArray} {ret : Option FieldType} {hh : List (Nat × Nat × Nat × Nat)} {As : List Value} {st0 : List Value} {x0 : dwR9 Unit} {K : Unit → dwSt → Option ρ} {KX : Nat → Nat → dwSt → Option ρ} (hf : xth x0 K KX = some res) (hw : GoodIn lw_all (va_wsS own index y (wsW_ y code L ret hh))) (hd : y.cls ≠ "java/lang/invoke/MethodHandle" ∧ y.cls ≠ "java/lang/invoke/VarHandle" ∧ (parseMethodDescriptor y.desc).map (fun d => d.parameters.length) = some n) (hM : ∀ x M', x0 = some (x, M') → dwWX g l y (wsW_ y code L ret hh) fr lo As M (fun _ => none) x M') (hfl : fr + 1 ≤ R.frames ∧ 8 + (L + 11) + lo ≤ R.locals) (hn : As.length = n) (hls : ls.size = nL) (hst : st0 = As.reverse ++ rest) (hrest : (rest.map fun v => v.category).sum ≤ 8) (hdg : decode cc pc = .ok (.invokestatic index, 3)) (kx : ∀ cl q M', KX cl q M' = some res → dwT g z p l e R s m args below meth c M' Q (F0 m pc ls rest) cl q) (k : ∀ r M', K r M' = some res → dwV g z p l e R s m args below meth c M' Q (F0 m (pc + 3) ls (rest))) : dwV g z p l e R s m args below meth c M Q (F0 m pc ls st0) := by
  obtain ⟨x, M', hx, h1, h2⟩ := xth_e hf
  exact v_callX cx (fun H locs cells slots hS hroom => vx_runSX (dw_cf cx) (hM _ _ hx) (vx_cwSW n cx.2.2.2.2.2.1 hw rfl rfl rfl hd hfl) ⟨dw_blind, dw_pre cx hS⟩ rfl hn (hls) hst (lv_room hrest) hdg hroom) (fun r hr => k r M' (h1 r hr)) (fun cl q hr => kx cl q M' (h2 cl q hr))
theorem dw_p0 {P : ExceptionTableEntry → Prop} : ∀ z ∈ tableOf [], P z := fun _ h => absurd h List.not_mem_nil
theorem dw_p1 (cx : dwCx g z M0 p l R s m args meth c own cc nL) {x : Nat × Nat × Nat × Nat} {tix : Nat} {nm : String} {cl : Nat} (hx : ∀ z ∈ tableOf [x], z.catchType = tix) (h0 : tix ≠ 0) (hl : Cond.classLink own tix nm ∈ lw_all) (hn : ∀ b0 : Addr, (Jvm.Cond.and given_1 narrow_1).before #[Value.ref b0] g.1 = true → (Cond.not (.castable (dwEx cl) nm)).before #[Value.ref b0] g.1 = true) : ∀ z ∈ tableOf [x], covers z pc = false ∨ (z.catchType ≠ 0 ∧ ∃ nm : String, (Cond.classLink own z.catchType nm).before args s = true ∧ va_Nc (dwEx cl) nm s) := by
  intro z hz
  have h1 := hx z hz
  obtain ⟨⟨b0, w0, hn0⟩, -⟩ := cx.2.2.2.2.2.2.1
  refine Or.inr ⟨by rw [h1]; exact h0, nm, by rw [h1]; exact cx.2.2.2.2.2.1 _ hl, va_Nc.moved cx.2.2.2.2.2.2.2.1.alike (va_Nc.of (hn b0 hn0))⟩
end ROWX
theorem dw_ncIN {b0 : Addr} {s : State} (h : (Jvm.Cond.and given_1 narrow_1).before #[Value.ref b0] s = true) : (Cond.not (.castable (dwEx 1) "java/util/NoSuchElementException")).before #[Value.ref b0] s = true := flat_of_before _ h _ (by decide +kernel)
