/-! THE STORE: a picture of the heap by typed maps from addresses; kinds: (0, class) an object, (1, n) ints, (2, n) bytes, (3, n) longs, (4, n) int arrays, (5, n) seasons, (6, n) objects; (10, class) a String constant, (11, n) the script, (12, n) a constant's bytes; (99, _) nothing -/
abbrev dwSt : Type := (Nat → Nat × Nat) × (Nat → Nat → Int32) × (Nat → Nat → Int64) × (Nat → Nat → Option Nat) × Nat × Nat × Nat × (Nat → Nat)
def dwK (M : dwSt) : Nat → Nat × Nat := M.1
def dwI (M : dwSt) : Nat → Nat → Int32 := M.2.1
def dwL (M : dwSt) : Nat → Nat → Int64 := M.2.2.1
def dwR (M : dwSt) : Nat → Nat → Option Nat := M.2.2.2.1
def dwN (M : dwSt) : Nat := M.2.2.2.2.1
def dwU (M : dwSt) : Nat := M.2.2.2.2.2.1
def dwC (M : dwSt) : Nat := M.2.2.2.2.2.2.1
def dwX (M : dwSt) : Nat → Nat := M.2.2.2.2.2.2.2
def up2 {α : Type} (f : Nat → Nat → α) (a k : Nat) (v : α) : Nat → Nat → α := fun b j => if b = a ∧ j = k then v else f b j
def dwPI (M : dwSt) (a k : Nat) (v : Int32) : dwSt := (M.1, up2 M.2.1 a k v, M.2.2)
def dwPL (M : dwSt) (a k : Nat) (v : Int64) : dwSt := (M.1, M.2.1, up2 M.2.2.1 a k v, M.2.2.2)
def dwPR (M : dwSt) (a k : Nat) (v : Option Nat) : dwSt := (M.1, M.2.1, M.2.2.1, up2 M.2.2.2.1 a k v, M.2.2.2.2)
/-- a new cell of n slots, all of them zero or null -/
def dwMk (M : dwSt) (kd : Nat × Nat) (n : Nat) : dwSt :=
  (va_up M.1 (dwN M) kd, va_up M.2.1 (dwN M) (fun _ => 0), va_up M.2.2.1 (dwN M) (fun _ => 0), va_up M.2.2.2.1 (dwN M) (fun _ => none), dwN M + 1, dwU M + n, dwC M, dwX M)
def dwOp (x : Nat) : Option Nat := if x = 0 then none else some (x - 1)
def dwLS : Nat := 7293034
/-! what a method asks of the store and does to it -/
def dwHas (kd : Nat × Nat) (f : Nat) : Bool := (kd.1 == 0 && (dwFs kd.2).contains f) || (kd.1 == 10 && ((dwFs kd.2).take 2).contains f)
def dwHasW (kd : Nat × Nat) (f : Nat) : Bool := kd.1 == 0 && (dwFs kd.2).contains f
section OPS
variable {ρ : Type}
def xob {α : Type} (x : Option α) (K : α → Option ρ) : Option ρ := match x with
  | some v => K v
  | none => none
def xmb {α : Type} (x : Option (α × dwSt)) (K : α → dwSt → Option ρ) : Option ρ := match x with
  | some v => K v.1 v.2
  | none => none
def jn {A : Type} (F : A) (G : A → Option ρ) : Option ρ := G F
def xgI (M : dwSt) (f o : Nat) (K : Int32 → Option ρ) : Option ρ := if dwHas (dwK M o) f = true then K (dwI M o f) else none
def xgL (M : dwSt) (f o : Nat) (K : Int64 → Option ρ) : Option ρ := if dwHas (dwK M o) f = true then K (dwL M o f) else none
def xgR (M : dwSt) (f o : Nat) (K : Nat → Option ρ) : Option ρ := if dwHas (dwK M o) f = true then (match dwR M o f with
  | some v => K v
  | none => none) else none
def xgN (M : dwSt) (f o : Nat) (K : Option Nat → Option ρ) : Option ρ := if dwHas (dwK M o) f = true then K (dwR M o f) else none
def xpI (M : dwSt) (f o : Nat) (v : Int32) (K : dwSt → Option ρ) : Option ρ := if dwHasW (dwK M o) f = true then K (dwPI M o f v) else none
def xpL (M : dwSt) (f o : Nat) (v : Int64) (K : dwSt → Option ρ) : Option ρ := if dwHasW (dwK M o) f = true then K (dwPL M o f v) else none
def xpR (M : dwSt) (f o v : Nat) (K : dwSt → Option ρ) : Option ρ := if dwHasW (dwK M o) f = true then K (dwPR M o f (some v)) else none
def xpN (M : dwSt) (f o : Nat) (v : Option Nat) (K : dwSt → Option ρ) : Option ρ := if dwHasW (dwK M o) f = true then K (dwPR M o f v) else none
def xaI (M : dwSt) (a : Nat) (i : Int32) (K : Int32 → Option ρ) : Option ρ := if ((dwK M a).1 = 1 ∨ (dwK M a).1 = 11) ∧ 0 ≤ i.toInt ∧ i.toInt < ((dwK M a).2 : Int) then K (dwI M a i.toNatClampNeg) else none
def xaB (M : dwSt) (a : Nat) (i : Int32) (K : Int32 → Option ρ) : Option ρ := if ((dwK M a).1 = 2 ∨ (dwK M a).1 = 12) ∧ 0 ≤ i.toInt ∧ i.toInt < ((dwK M a).2 : Int) then K (dwI M a i.toNatClampNeg) else none
def xaL (M : dwSt) (a : Nat) (i : Int32) (K : Int64 → Option ρ) : Option ρ := if (dwK M a).1 = 3 ∧ 0 ≤ i.toInt ∧ i.toInt < ((dwK M a).2 : Int) then K (dwL M a i.toNatClampNeg) else none
def xaR (M : dwSt) (t a : Nat) (i : Int32) (K : Nat → Option ρ) : Option ρ := if (dwK M a).1 = t ∧ 0 ≤ i.toInt ∧ i.toInt < ((dwK M a).2 : Int) then (match dwR M a i.toNatClampNeg with
  | some v => K v
  | none => none) else none
def xaN (M : dwSt) (t a : Nat) (i : Int32) (K : Option Nat → Option ρ) : Option ρ := if (dwK M a).1 = t ∧ 0 ≤ i.toInt ∧ i.toInt < ((dwK M a).2 : Int) then K (dwR M a i.toNatClampNeg) else none
def xsI (M : dwSt) (a : Nat) (i v : Int32) (K : dwSt → Option ρ) : Option ρ := if (dwK M a).1 = 1 ∧ 0 ≤ i.toInt ∧ i.toInt < ((dwK M a).2 : Int) then K (dwPI M a i.toNatClampNeg v) else none
def xsB (M : dwSt) (a : Nat) (i v : Int32) (K : dwSt → Option ρ) : Option ρ := if (dwK M a).1 = 2 ∧ 0 ≤ i.toInt ∧ i.toInt < ((dwK M a).2 : Int) then K (dwPI M a i.toNatClampNeg v.toInt8.toInt32) else none
def xsL (M : dwSt) (a : Nat) (i : Int32) (v : Int64) (K : dwSt → Option ρ) : Option ρ := if (dwK M a).1 = 3 ∧ 0 ≤ i.toInt ∧ i.toInt < ((dwK M a).2 : Int) then K (dwPL M a i.toNatClampNeg v) else none
/-- an object of a class among cs goes into an array of kind t -/
def xsR (M : dwSt) (t : Nat) (cs : List Nat) (a : Nat) (i : Int32) (v : Nat) (K : dwSt → Option ρ) : Option ρ := if (dwK M a).1 = t ∧ (0 ≤ i.toInt ∧ i.toInt < ((dwK M a).2 : Int)) ∧ (dwK M v).1 = 0 ∧ cs.contains (dwK M v).2 = true then K (dwPR M a i.toNatClampNeg (some v)) else none
def xlen (M : dwSt) (a : Nat) (K : Int32 → Option ρ) : Option ρ := if 1 ≤ (dwK M a).1 ∧ ((dwK M a).1 ≤ 6 ∨ (dwK M a).1 = 11 ∨ (dwK M a).1 = 12) then K (Int32.ofNat (dwK M a).2) else none
def xnew (M : dwSt) (ci : Nat) (K : Nat → dwSt → Option ρ) : Option ρ := if dwN M < dwC M ∧ dwU M + (dwFs ci).length ≤ dwLS then K (dwN M) (dwMk M (0, ci) (dwFs ci).length) else none
def xnewA (M : dwSt) (t : Nat) (n : Int32) (K : Nat → dwSt → Option ρ) : Option ρ := if 0 ≤ n.toInt ∧ n.toInt ≤ 60000000 ∧ dwN M < dwC M ∧ dwU M + n.toNatClampNeg ≤ dwLS then K (dwN M) (dwMk M (t, n.toNatClampNeg) n.toNatClampNeg) else none
/-- an array at a of N rows of k ints each, made one behind another -/
def dwRows (M : dwSt) (N k a : Nat) : Nat → dwSt
  | 0 => dwMk M (4, N) N
  | i + 1 => dwPR (dwMk (dwRows M N k a i) (1, k) k) a i (some (dwN (dwRows M N k a i)))
def xnew2 (M : dwSt) (n k : Int32) (K : Nat → dwSt → Option ρ) : Option ρ :=
  if 0 ≤ n.toInt ∧ n.toInt ≤ 60000 ∧ 0 ≤ k.toInt ∧ k.toInt ≤ 60000 ∧ dwN M + 1 + n.toNatClampNeg ≤ dwC M ∧ dwU M + (n.toNatClampNeg + n.toNatClampNeg * k.toNatClampNeg) ≤ dwLS then
    K (dwN M) (dwRows M n.toNatClampNeg k.toNatClampNeg (dwN M) n.toNatClampNeg) else none
def xrc (M : dwSt) (b : Nat) (cs : List Nat) (K : Option ρ) : Option ρ := if (dwK M b).1 = 0 ∧ cs.contains (dwK M b).2 = true then K else none
def xrk (M : dwSt) (b ci : Nat) (X : Option ρ) : Option ρ := if dwK M b = (0, ci) ∨ dwK M b = (10, ci) then X else none
def xrk0 (M : dwSt) (b ci : Nat) (X : Option ρ) : Option ρ := if dwK M b = (0, ci) then X else none
def xbl (v : Int32) (X : Option ρ) : Option ρ := if v = 0 ∨ v = 1 then X else none
def xby (v : Int32) (X : Option ρ) : Option ρ := if v.toInt8.toInt32 = v then X else none
/-- by the receiver's class -/
def xsw (M : dwSt) (b ci : Nat) (A B : Option ρ) : Option ρ := if dwK M b = (0, ci) then A else B
def xdiv (x y : Int32) (K : Int32 → Option ρ) : Option ρ := if y = 0 then none else K (x / y)
def xrem (x y : Int32) (K : Int32 → Option ρ) : Option ρ := if y = 0 then none else K (x - x / y * y)
def xldiv (x y : Int64) (K : Int64 → Option ρ) : Option ρ := if y = 0 then none else K (x / y)
def xlrem (x y : Int64) (K : Int64 → Option ρ) : Option ρ := if y = 0 then none else K (x - x / y * y)
/-- ints (t = 1) or bytes (t = 2) copied from one array to another -/
def xcpy (M : dwSt) (t a : Nat) (sp : Int32) (b : Nat) (dp n : Int32) (K : dwSt → Option ρ) : Option ρ :=
  if ((dwK M a).1 = t ∧ (dwK M b).1 = t) ∧ (0 ≤ sp.toInt ∧ 0 ≤ dp.toInt ∧ 0 ≤ n.toInt) ∧ sp.toInt + n.toInt ≤ ((dwK M a).2 : Int) ∧ dp.toInt + n.toInt ≤ ((dwK M b).2 : Int) ∧ (t = 1 ∨ ∀ i, i < n.toNatClampNeg → (dwI M a (sp.toNatClampNeg + i)).toInt8.toInt32 = dwI M a (sp.toNatClampNeg + i)) then
    K (M.1, va_up M.2.1 b (va_cpy (dwI M a) (dwI M b) sp.toNatClampNeg dp.toNatClampNeg n.toNatClampNeg), M.2.2) else none
/-- null, or an object of a class among cs -/
def dwEm (M : dwSt) (cs : List Nat) (r : Option Nat) : Bool := match r with
  | none => true
  | some y => (dwK M y).1 == 0 && cs.contains (dwK M y).2
def xcpyR (M : dwSt) (cs : List Nat) (a : Nat) (sp : Int32) (b : Nat) (dp n : Int32) (K : dwSt → Option ρ) : Option ρ :=
  if ((dwK M a).1 = 6 ∧ (dwK M b).1 = 6) ∧ (0 ≤ sp.toInt ∧ 0 ≤ dp.toInt ∧ 0 ≤ n.toInt) ∧ sp.toInt + n.toInt ≤ ((dwK M a).2 : Int) ∧ dp.toInt + n.toInt ≤ ((dwK M b).2 : Int) ∧ (∀ i, i < n.toNatClampNeg → dwEm M cs (dwR M a (sp.toNatClampNeg + i)) = true) then
    K (M.1, M.2.1, M.2.2.1, va_up M.2.2.2.1 b (va_cpy (dwR M a) (dwR M b) sp.toNatClampNeg dp.toNatClampNeg n.toNatClampNeg), M.2.2.2.2) else none
/-- is it a String? a byte array? -/
def xist (M : dwSt) (b : Nat) (ks : List (Nat × Nat)) (K : Option ρ) : Option ρ := if ks.contains (dwK M b) = true then K else none
def xbar (M : dwSt) (b : Nat) (K : Option ρ) : Option ρ := if (dwK M b).1 = 2 then K else none
def xqar (M : dwSt) (b : Nat) (K : Option ρ) : Option ρ := if (dwK M b).1 = 6 then K else none
end OPS
/-! THE PICTURE: what a heap must hold to be the one that a store tells of; g: the law's start, the classes' numbers and slots, the array classes' numbers -/
abbrev dwG : Type := State × (Nat → ClassId) × (Nat → Nat → Nat) × (Nat → ClassId) × (Nat → Nat)
def dwFv (M : dwSt) (a f : Nat) : Value := match dwTag f with
  | 0 => .int (dwI M a f)
  | 1 => .long (dwL M a f)
  | _ => va_rf (dwR M a f)
def dwTys (g : dwG) : List (ClassId × FieldType) := [(g.2.2.2.1 1, .int), (g.2.2.2.1 2, .byte), (g.2.2.2.1 3, .long), (g.2.2.2.1 4, .array .int), (g.2.2.2.1 5, .object "DimpleWells$Season"), (g.2.2.2.1 6, .object "java/lang/Object")]
def dwObj (g : dwG) (M : dwSt) (a ci : Nat) (H : Heap) : Prop := dwCO ci ∧ t_OB a (g.2.1 ci) (dwCc ci).2.2 (g.2.2.1 ci) H (fun k => dwFv M a ((dwFs ci).getD k 0))
/-- of a String constant: its first two fields -/
def dwRo (g : dwG) (M : dwSt) (a ci : Nat) (H : Heap) : Prop := dwCO ci ∧ ∃ cell : Cell, H[a]? = some cell ∧ cell.cls = g.2.1 ci ∧ cell.vm ≠ .unknown ∧ cell.vm.isStatics = false ∧ ∀ k, k < 2 → cell.slots[g.2.2.1 ci k]? = some (dwFv M a ((dwFs ci).getD k 0))
def dwRA (g : dwG) (a n : Nat) (ty : FieldType) (f : Nat → Int32) (H : Heap) : Prop := ∃ cell : Cell, H[a]? = some cell ∧ g.1.isArrayOf cell ty ∧ cell.vm ≠ .unknown ∧ (n ≤ cell.slots.size ∧ cell.slots.size.toInt32 = Int32.ofNat n) ∧ ∀ j, j < n → cell.slots[j]? = some (.int (f j))
def dwOK (g : dwG) (M : dwSt) (a : Nat) (H : Heap) : Prop :=
  (∀ ci, dwK M a = (0, ci) → dwObj g M a ci H) ∧
  (∀ n, dwK M a = (1, n) → H[a]? = some (arrV (g.2.2.2.1 1) n (fun j => .int (dwI M a j)))) ∧
  (∀ n, dwK M a = (2, n) → H[a]? = some (arrV (g.2.2.2.1 2) n (fun j => .int (dwI M a j)))) ∧
  (∀ n, dwK M a = (3, n) → H[a]? = some (arrV (g.2.2.2.1 3) n (fun j => .long (dwL M a j)))) ∧
  (∀ t n, 4 ≤ t → t ≤ 6 → dwK M a = (t, n) → H[a]? = some (arrV (g.2.2.2.1 t) n (fun j => va_rf (dwR M a j)))) ∧
  (∀ ci, dwK M a = (10, ci) → dwRo g M a ci H) ∧
  (∀ n, dwK M a = (11, n) → dwRA g a n .int (dwI M a) H) ∧
  (∀ n, dwK M a = (12, n) → dwRA g a n .byte (dwI M a) H)
def dwHsz (H : Heap) : Nat := H.foldl (fun n c => n + c.slots.size) 0
def dwSat (g : dwG) (z : Nat × Nat) (M : dwSt) (H : Heap) : Prop :=
  H.size = dwN M ∧ g.1.heap.size ≤ dwN M ∧ (∀ q : Nat, q < g.1.heap.size → H[q]? = g.1.heap[q]?) ∧
  (∀ a, (dwK M a).1 < 8 → g.1.heap.size ≤ a ∧ a < dwN M) ∧ (∀ a, (dwK M a).1 < 20 → a < dwN M) ∧ (∀ a, dwOK g M a H) ∧
  dwHsz H + z.2 ≤ z.1 + dwU M ∧ dwN M ≤ dwC M ∧ dwU M ≤ dwLS ∧ dwC M = g.1.heap.size + 601024 ∧ dwX M = g.2.2.2.2
/-- the String constants that are loaded: class, entry, text -/
def dwStr : List (Nat × String × Nat × String) := dwStrs
def dwXs (g : dwG) : Prop := va_Z "java/lang/Throwable" "UNASSIGNED_STACK" "[Ljava/lang/StackTraceElement;" (va_rf (dwOp (g.2.2.2.2 0))) (fun q => g.1.heap.size ≤ q) g.1 g.1.heap ∧ va_Z "java/lang/Throwable" "SUPPRESSED_SENTINEL" "Ljava/util/List;" (va_rf (dwOp (g.2.2.2.2 1))) (fun q => g.1.heap.size ≤ q) g.1 g.1.heap ∧ va_Mi "[Ljava/lang/Object;" (g.2.2.2.2 2) g.1 ∧ ∀ x ∈ dwStr, vk_R x.2.1 x.2.2.1 x.2.2.2 (g.2.2.2.2 x.1) g.1
/-- what is known of the start -/
def dwG0 (g : dwG) : Prop := (∃ b0 : Addr, (∀ w ∈ lw_tbl, w.before #[Value.ref b0] g.1 = true) ∧ (Jvm.Cond.and given_1 narrow_1).before #[Value.ref b0] g.1 = true) ∧ va_K (g.2.1, g.2.2.1) dwCl (dwTys g) g.1 ∧ dwXs g
theorem dw_hsz (H : Heap) : dwHsz H = (H.toList.map (fun c => c.slots.size)).sum := by
  unfold dwHsz
  rw [← Array.foldl_toList]
  have : ∀ (l : List Cell) (k : Nat), l.foldl (fun n c => n + c.slots.size) k = k + (l.map (fun c => c.slots.size)).sum := by
    intro l
    induction l with
    | nil => intro k; simp
    | cons a l ih => intro k; rw [List.foldl_cons, ih, List.map_cons, List.sum_cons]; omega
  rw [this, Nat.zero_add]
theorem dw_hsz_eq {H H' : Heap} (hz : H'.size = H.size) (h : ∀ (q : Nat) (c c' : Cell), H[q]? = some c → H'[q]? = some c' → c'.slots.size = c.slots.size) : dwHsz H' = dwHsz H := by
  rw [dw_hsz, dw_hsz]
  congr 1
  apply List.ext_getElem?
  intro i
  rw [List.getElem?_map, List.getElem?_map, Array.getElem?_toList, Array.getElem?_toList]
  cases h1 : H[i]? with
  | none =>
    have h2 : H'[i]? = none := by
      rw [Array.getElem?_eq_none_iff] at h1 ⊢
      omega
    rw [h2]
  | some c =>
    have hl : i < H'.size := by
      have := (Array.getElem?_eq_some_iff.mp h1).1
      omega
    obtain ⟨c', h2⟩ : ∃ c', H'[i]? = some c' := ⟨_, Array.getElem?_eq_getElem hl⟩
    rw [h2]
    exact congrArg some (h i c c' h1 h2)
theorem dw_hsz_push {H H' : Heap} {cell : Cell} (hz : H'.size = H.size + 1) (hc : H'[H.size]? = some cell) (ho : ∀ q, q < H.size → H'[q]? = H[q]?) : dwHsz H' = dwHsz H + cell.slots.size := by
  have e : H'.toList = H.toList ++ [cell] := by
    apply List.ext_getElem?
    intro i
    rw [Array.getElem?_toList]
    by_cases h1 : i < H.size
    · rw [ho i h1, List.getElem?_append_left (by simpa using h1), Array.getElem?_toList]
    · by_cases h2 : i = H.size
      · subst h2
        rw [hc, List.getElem?_append_right (by simp)]
        simp
      · rw [Array.getElem?_eq_none_iff.mpr (by omega), List.getElem?_eq_none (by simp; omega)]
  rw [dw_hsz, dw_hsz, e]
  simp
/-- a cell that is as it was, in both pictures -/
theorem dwOK.kept {g : dwG} {M M' : dwSt} {a : Nat} {H H' : Heap} (h : dwOK g M a H) (hk : dwK M' a = dwK M a) (hi : dwI M' a = dwI M a) (hl : dwL M' a = dwL M a) (hr : dwR M' a = dwR M a) (hq : H'[a]? = H[a]?) : dwOK g M' a H' := by
  have hv : ∀ f, dwFv M' a f = dwFv M a f := fun f => by unfold dwFv; rw [hi, hl, hr]
  obtain ⟨h0, h1, h2, h3, h4, h5, h6, h7⟩ := h
  refine ⟨?_, ?_, ?_, ?_, ?_, ?_, ?_, ?_⟩
  · intro ci e
    rw [hk] at e
    obtain ⟨c1, c2⟩ := h0 ci e
    refine ⟨c1, ?_⟩
    simp only [hv]
    exact c2.kept hq
  · intro n e
    rw [hk] at e
    rw [hq, hi]
    exact h1 n e
  · intro n e
    rw [hk] at e
    rw [hq, hi]
    exact h2 n e
  · intro n e
    rw [hk] at e
    rw [hq, hl]
    exact h3 n e
  · intro t n t1 t2 e
    rw [hk] at e
    rw [hq, hr]
    exact h4 t n t1 t2 e
  · intro ci e
    rw [hk] at e
    obtain ⟨c1, cell, c2, c3, c4, c5, c6⟩ := h5 ci e
    refine ⟨c1, cell, by rw [hq]; exact c2, c3, c4, c5, fun k hk => ?_⟩
    rw [hv]
    exact c6 k hk
  · intro n e
    rw [hk] at e
    obtain ⟨cell, c2, c3⟩ := h6 n e
    rw [hi]
    exact ⟨cell, by rw [hq]; exact c2, c3⟩
  · intro n e
    rw [hk] at e
    obtain ⟨cell, c2, c3⟩ := h7 n e
    rw [hi]
    exact ⟨cell, by rw [hq]; exact c2, c3⟩
/-- one cell of the own ones is written -/
theorem dwSat.upd {g : dwG} {z : Nat × Nat} {M M' : dwSt} {a : Nat} {H H' : Heap} (hS : dwSat g z M H) (ha : (dwK M a).1 < 8) (ek : dwK M' = dwK M) (en : dwN M' = dwN M) (eu : dwU M' = dwU M) (ec : dwC M' = dwC M) (ex : dwX M' = dwX M)
    (hb : ∀ b, b ≠ a → dwI M' b = dwI M b ∧ dwL M' b = dwL M b ∧ dwR M' b = dwR M b) (hz : H'.size = H.size) (oq : ∀ q, q ≠ a → H'[q]? = H[q]?) (hs : ∀ (c c' : Cell), H[a]? = some c → H'[a]? = some c' → c'.slots.size = c.slots.size) (hc : dwOK g M' a H') : dwSat g z M' H' := by
  obtain ⟨h1, h2, h3, h4, h5, h6, h7, h8, h9, h10, h11⟩ := hS
  have hba := (h4 a ha).1
  refine ⟨by rw [hz, en]; exact h1, by rw [en]; exact h2, fun q hq => ?_, fun b hb => ?_, fun b hb => ?_, fun b => ?_, ?_, by rw [en, ec]; exact h8, by rw [eu]; exact h9, by rw [ec]; exact h10, by rw [ex]; exact h11⟩
  · rw [oq q (by omega)]
    exact h3 q hq
  · rw [ek] at hb
    rw [en]
    exact h4 b hb
  · rw [ek] at hb
    rw [en]
    exact h5 b hb
  · by_cases e : b = a
    · rw [e]; exact hc
    · obtain ⟨b1, b2, b3⟩ := hb b e
      exact (h6 b).kept (by rw [ek]) b1 b2 b3 (oq b e)
  · rw [eu]
    refine Nat.le_trans (Nat.le_of_eq (congrArg (· + z.2) ?_)) h7
    refine dw_hsz_eq hz fun q c c' e1 e2 => ?_
    by_cases e : q = a
    · rw [e] at e1 e2
      exact hs c c' e1 e2
    · rw [oq q e, e1] at e2
      cases e2
      rfl
/-- a cell is made -/
theorem dwSat.new {g : dwG} {z : Nat × Nat} {M : dwSt} {kd : Nat × Nat} {n : Nat} {H H' : Heap} {cell : Cell} (hS : dwSat g z M H) (hn : dwN M < dwC M) (hu : dwU M + n ≤ dwLS) (hz : H'.size = H.size + 1) (hcell : H'[H.size]? = some cell) (hsz : cell.slots.size = n) (oq : ∀ q, q < H.size → H'[q]? = H[q]?) (hc : dwOK g (dwMk M kd n) (dwN M) H') : dwSat g z (dwMk M kd n) H' := by
  obtain ⟨h1, h2, h3, h4, h5, h6, h7, h8, h9, h10, h11⟩ := hS
  have en : dwN (dwMk M kd n) = dwN M + 1 := rfl
  have eu : dwU (dwMk M kd n) = dwU M + n := rfl
  have ec : dwC (dwMk M kd n) = dwC M := rfl
  have ek : ∀ b, b ≠ dwN M → dwK (dwMk M kd n) b = dwK M b := fun b hb => by simp [dwMk, dwK, va_up, hb]
  refine ⟨by rw [hz, en, h1], by rw [en]; omega, fun q hq => ?_, fun b hb => ?_, fun b hb => ?_, fun b => ?_, ?_, by rw [en, ec]; omega, by rw [eu]; exact hu, by rw [ec]; exact h10, h11⟩
  · rw [oq q (by omega)]
    exact h3 q hq
  · rw [en]
    by_cases e : b = dwN M
    · omega
    · rw [ek b e] at hb
      have := h4 b hb
      omega
  · rw [en]
    by_cases e : b = dwN M
    · omega
    · rw [ek b e] at hb
      have := h5 b hb
      omega
  · by_cases e : b = dwN M
    · rw [e]; exact hc
    · have hk := ek b e
      by_cases hl : b < dwN M
      · exact (h6 b).kept hk (by simp [dwMk, dwI, va_up, e]) (by simp [dwMk, dwL, va_up, e]) (by simp [dwMk, dwR, va_up, e]) (oq b (by omega))
      · have hj : ¬ (dwK M b).1 < 20 := fun q => hl (h5 b q)
        rw [← hk] at hj
        refine ⟨fun ci e => ?_, fun n e => ?_, fun n e => ?_, fun n e => ?_, fun t n t1 t2 e => ?_, fun ci e => ?_, fun n e => ?_, fun n e => ?_⟩ <;> (rw [e] at hj; exact absurd hj (by simp only; omega))
  · rw [eu, dw_hsz_push hz hcell oq, hsz]
    omega
theorem dwSat.reb {g : dwG} {z : Nat × Nat} {M : dwSt} {H : Heap} (h : dwSat g z M H) : dwSat g (dwHsz H, dwU M) M H := ⟨h.1, h.2.1, h.2.2.1, h.2.2.2.1, h.2.2.2.2.1, h.2.2.2.2.2.1, Nat.le_refl _, h.2.2.2.2.2.2.2⟩
theorem dwSat.tr {g : dwG} {z : Nat × Nat} {M M' : dwSt} {H H' : Heap} (h : dwSat g z M H) (h' : dwSat g (dwHsz H, dwU M) M' H') : dwSat g z M' H' := by
  have h1 := h.2.2.2.2.2.2.1
  have h2 := h'.2.2.2.2.2.2.1
  simp only at h2
  exact ⟨h'.1, h'.2.1, h'.2.2.1, h'.2.2.2.1, h'.2.2.2.2.1, h'.2.2.2.2.2.1, by omega, h'.2.2.2.2.2.2.2⟩
/-! THE CONTEXT of a walk, and the walk's own word: V -/
def dwCx (g : dwG) (z : Nat × Nat) (M0 : dwSt) (p : Program) (l : Launch) (R : Room) (s : State) (m : MethodId) (args : Array Value) (meth : Method) (c : Code) (own : String) (cc : ByteArray) (nL : Nat) : Prop :=
  p.tables.exec = Jvm.exec ∧ c.code = cc ∧ c.maxLocals = nL ∧ meth.locks = false ∧ s.vm.findClass own = some m.cls ∧ (∀ w ∈ lw_all, w.before args s = true) ∧ dwG0 g ∧ g.1.WarmedH s.vm ∧ dwSat g z M0 s.heap ∧ R.cells = dwC M0 - dwN M0 ∧ R.slots = dwLS - dwU M0 ∧ l.stackTraces = false ∧ z = (dwHsz s.heap, dwU M0)
def dwV (g : dwG) (z : Nat × Nat) (p : Program) (l : Launch) (e : Env) (R : Room) (s : State) (m : MethodId) (args : Array Value) (below : List Frame) (meth : Method) (c : Code) (M : dwSt) (Q : State → Prop) (fr : JFrame) : Prop :=
  ∀ (H : Heap) (locs : List Loc) (cells slots : Nat), dwSat g z M H → (∀ q ∈ locs, g.1.heap.size ≤ q.base) → W p l e R s m args below meth c H locs cells slots Q fr
theorem dw_no {α : Type} {r : α} {P : Prop} (h : (none : Option α) = some r) : P := nomatch h
theorem jn_e {A ρ : Type} {F : A} {G : A → Option ρ} {res : ρ} {P : Prop} (hf : jn F G = some res) (h : ∀ J : A, J = F → G J = some res → P) : P := h F rfl hf
theorem xob_e {α ρ : Type} {x : Option α} {K : α → Option ρ} {res : ρ} (hf : xob x K = some res) : ∃ v, x = some v ∧ K v = some res := by
  cases x with
  | none => exact dw_no hf
  | some v => exact ⟨v, rfl, hf⟩
theorem xmb_e {α ρ : Type} {x : Option (α × dwSt)} {K : α → dwSt → Option ρ} {res : ρ} (hf : xmb x K = some res) : ∃ v M, x = some (v, M) ∧ K v M = some res := by
  cases x with
  | none => exact dw_no hf
  | some v => exact ⟨v.1, v.2, rfl, hf⟩
theorem xob_d {α ρ : Type} {x0 : Option α} {K : α → Option ρ} {res : ρ} {P : Prop} {G : α → Prop} (hf : xob x0 K = some res) (h : ∀ v, x0 = some v → G v → P) (k : ∀ v, K v = some res → G v) : P := by
  obtain ⟨v, h1, h2⟩ := xob_e hf
  exact h v h1 (k v h2)
theorem xmb_d {α ρ : Type} {x0 : Option (α × dwSt)} {K : α → dwSt → Option ρ} {res : ρ} {P : Prop} {G : α → dwSt → Prop} (hf : xmb x0 K = some res) (h : ∀ v M, x0 = some (v, M) → G v M → P) (k : ∀ v M, K v M = some res → G v M) : P := by
  obtain ⟨v, M, h1, h2⟩ := xmb_e hf
  exact h v M h1 (k v M h2)
theorem xob_s {α : Type} {x0 : Option α} {v : α} (h : x0 = some v) : xob x0 some = some v := by rw [h]; rfl
theorem xmb_s {α : Type} {x0 : Option (α × dwSt)} {v : α × dwSt} (h : x0 = some v) : xmb x0 (fun r M => some (r, M)) = some v := by rw [h]; rfl
theorem xsw_e {ρ : Type} {M : dwSt} {b ci : Nat} {A B : Option ρ} {res : ρ} (hf : xsw M b ci A B = some res) : (dwK M b = (0, ci) ∧ A = some res) ∨ B = some res := by
  unfold xsw at hf
  by_cases h : dwK M b = (0, ci)
  · rw [if_pos h] at hf; exact Or.inl ⟨h, hf⟩
  · rw [if_neg h] at hf; exact Or.inr hf
theorem ite_e {ρ : Type} {c : Prop} {dc : Decidable c} {X : Option ρ} {res : ρ} (hf : (if c then X else none) = some res) : c ∧ X = some res := by
  by_cases h : c
  · rw [if_pos h] at hf; exact ⟨h, hf⟩
  · rw [if_neg h] at hf; exact dw_no hf
theorem dw_in {i : Int32} {n : Nat} (h : 0 ≤ i.toInt ∧ i.toInt < (n : Int)) : ¬ (i < 0 ∨ n ≤ i.toNatClampNeg) ∧ i.toNatClampNeg < n := by
  have h1 : vp_in i n := vp_in_iff.mpr h
  exact ⟨h1, Nat.not_le.mp fun q => h1 (Or.inr q)⟩
section ROWS
variable {g : dwG} {z : Nat × Nat} {M0 : dwSt} {p : Program} {l : Launch} {e : Env} {R : Room} {s : State} {m : MethodId} {args : Array Value} {below : List Frame} {meth : Method} {c : Code} {M : dwSt} {Q : State → Prop} {own : String} {cc : ByteArray} {nL : Nat} {pc : Nat} {ls : Array Slot} {rest : List Value} {ρ : Type} {res : ρ}
theorem dw_kn (cx : dwCx g z M0 p l R s m args meth c own cc nL) : va_K (g.2.1, g.2.2.1) dwCl (dwTys g) s := va_K.moved cx.2.2.2.2.2.2.2.1.alike cx.2.2.2.2.2.2.1.2.1
/-- the room is just what was made -/
theorem dw_tight (hz9 : z = (dwHsz s.heap, dwU M0)) (hM0 : dwSat g z M0 s.heap) {T : State} {locs : List Loc} {cells slots : Nat} (X : Stand p l e R s m args below meth c T locs cells slots) (hM : dwSat g z M T.heap) : dwN M0 ≤ dwN M ∧ dwU M0 ≤ dwU M ∧ Stand p l e R s m args below meth c T locs (dwN M - dwN M0) (dwU M - dwU M0) := by
  have hbook := X.book
  have h0 : s.slotsTrue = true := by
    have h := X.room
    simp only [State.hasRoom, Bool.and_eq_true] at h
    exact h.2
  have b1 : T.slotsUsed = dwHsz T.heap := by
    unfold State.slotsTrue at hbook
    exact eq_of_beq hbook
  have b0 : s.slotsUsed = dwHsz s.heap := by
    unfold State.slotsTrue at h0
    exact eq_of_beq h0
  have sm := X.same
  obtain ⟨q1, q2, q3, q4, q5, q6⟩ := sm
  have q2' : s.heap.size ≤ T.heap.size := q2
  have q4' : T.slotsUsed = s.slotsUsed + ((T.heap.toList.drop s.heap.size).map (fun c => c.slots.size)).sum := q4
  have z1 := hM.1
  have z0 := hM0.1
  have u1 := hM.2.2.2.2.2.2.1
  rw [hz9] at u1
  have hsum : ((T.heap.toList.drop s.heap.size).map (fun c => c.slots.size)).sum ≤ dwU M - dwU M0 ∧ dwU M0 ≤ dwU M := by simp only at u1; omega
  refine ⟨by omega, hsum.2, { X with same := ⟨q1, q2, ?_, q4, ?_, q6⟩ }⟩
  · show T.heap.size ≤ s.heap.size + _
    omega
  · exact hsum.1
theorem dw_W (cx : dwCx g z M0 p l R s m args meth c own cc nL) {H : Heap} {locs : List Loc} {cells slots : Nat} {fr : JFrame} (hS : dwSat g z M H) (k : dwN M0 ≤ dwN M → dwU M0 ≤ dwU M → W p l e R s m args below meth c H locs (dwN M - dwN M0) (dwU M - dwU M0) Q fr) : W p l e R s m args below meth c H locs cells slots Q fr := by
  intro T hT X
  obtain ⟨h1, h2, X'⟩ := dw_tight cx.2.2.2.2.2.2.2.2.2.2.2.2 cx.2.2.2.2.2.2.2.2.1 X (by rw [hT]; exact hS)
  exact k h1 h2 T hT X'
end ROWS
