section ROWC
variable {g : dwG} {z : Nat × Nat} {M0 : dwSt} {p : Program} {l : Launch} {e : Env} {R : Room} {s : State} {m : MethodId} {args : Array Value} {below : List Frame} {meth : Method} {c : Code} {M : dwSt} {Q : State → Prop} {own : String} {cc : ByteArray} {nL : Nat} {pc : Nat} {ls : Array Slot} {rest : List Value} {ρ : Type} {res : ρ}
theorem dw_okA1 {M : dwSt} {a n : Nat} {H : Heap} (hk : dwK M a = (1, n)) (h : H[a]? = some (arrV (g.2.2.2.1 1) n (fun j => .int (dwI M a j)))) : dwOK g M a H := by
  have hne : ∀ t n', t ≠ 1 → dwK M a ≠ (t, n') := fun t n' ht h => by rw [hk] at h; exact ht (congrArg Prod.fst h).symm
  refine ⟨fun ci h => absurd h (hne 0 ci (by decide)), fun n' h' => ?_, fun n h => absurd h (hne 2 n (by decide)), fun n h => absurd h (hne 3 n (by decide)), fun t n h1 h2 h => absurd h (hne t n (by omega)), fun n h => absurd h (hne 10 n (by decide)), fun n h => absurd h (hne 11 n (by decide)), fun n h => absurd h (hne 12 n (by decide))⟩
  rw [hk] at h'
  cases h'
  exact h
theorem dw_okA2 {M : dwSt} {a n : Nat} {H : Heap} (hk : dwK M a = (2, n)) (h : H[a]? = some (arrV (g.2.2.2.1 2) n (fun j => .int (dwI M a j)))) : dwOK g M a H := by
  have hne : ∀ t n', t ≠ 2 → dwK M a ≠ (t, n') := fun t n' ht h => by rw [hk] at h; exact ht (congrArg Prod.fst h).symm
  refine ⟨fun ci h => absurd h (hne 0 ci (by decide)), fun n h => absurd h (hne 1 n (by decide)), fun n' h' => ?_, fun n h => absurd h (hne 3 n (by decide)), fun t n h1 h2 h => absurd h (hne t n (by omega)), fun n h => absurd h (hne 10 n (by decide)), fun n h => absurd h (hne 11 n (by decide)), fun n h => absurd h (hne 12 n (by decide))⟩
  rw [hk] at h'
  cases h'
  exact h
theorem dw_okA3 {M : dwSt} {a n : Nat} {H : Heap} (hk : dwK M a = (3, n)) (h : H[a]? = some (arrV (g.2.2.2.1 3) n (fun j => .long (dwL M a j)))) : dwOK g M a H := by
  have hne : ∀ t n', t ≠ 3 → dwK M a ≠ (t, n') := fun t n' ht h => by rw [hk] at h; exact ht (congrArg Prod.fst h).symm
  refine ⟨fun ci h => absurd h (hne 0 ci (by decide)), fun n h => absurd h (hne 1 n (by decide)), fun n h => absurd h (hne 2 n (by decide)), fun n' h' => ?_, fun t n h1 h2 h => absurd h (hne t n (by omega)), fun n h => absurd h (hne 10 n (by decide)), fun n h => absurd h (hne 11 n (by decide)), fun n h => absurd h (hne 12 n (by decide))⟩
  rw [hk] at h'
  cases h'
  exact h
theorem dw_okA4 {M : dwSt} {a t n : Nat} {H : Heap} (ht1 : 4 ≤ t) (ht2 : t ≤ 6) (hk : dwK M a = (t, n)) (h : H[a]? = some (arrV (g.2.2.2.1 t) n (fun j => va_rf (dwR M a j)))) : dwOK g M a H := by
  have hne : ∀ t' n', t' ≠ t → dwK M a ≠ (t', n') := fun t' n' ht h => by rw [hk] at h; exact ht (congrArg Prod.fst h).symm
  refine ⟨fun ci h => absurd h (hne 0 ci (by omega)), fun n h => absurd h (hne 1 n (by omega)), fun n h => absurd h (hne 2 n (by omega)), fun n h => absurd h (hne 3 n (by omega)), fun t' n' h1 h2 h' => ?_, fun n h => absurd h (hne 10 n (by omega)), fun n h => absurd h (hne 11 n (by omega)), fun n h => absurd h (hne 12 n (by omega))⟩
  rw [hk] at h'
  cases h'
  exact h
theorem dw_kd {M : dwSt} {a t : Nat} (h : (dwK M a).1 = t) : dwK M a = (t, (dwK M a).2) := Prod.ext h rfl
theorem dw_ao (cx : dwCx g z M0 p l R s m args meth c own cc nL) {t : Nat} {cA : ClassId} {ty : FieldType} (h : (dwTys g)[t]? = some (cA, ty)) (n : Nat) (f : Nat → Value) : s.isArrayOf (arrV cA n f) ty := ((dw_kn cx).2 t _ h).1 n f
theorem arrV_vm (cA : ClassId) (n : Nat) (f : Nat → Value) : (arrV cA n f).vm ≠ .unknown := fun q => nomatch q
/-- the class of the elements of an array of kind t -/
def dwEl (t : Nat) : FieldType := if t = 4 then .array .int else if t = 5 then .object "DimpleWells$Season" else .object "java/lang/Object"
theorem dw_el {g : dwG} {t : Nat} (h1 : 4 ≤ t) (h2 : t ≤ 6) : (dwTys g)[t - 1]? = some (g.2.2.2.1 t, dwEl t) := by
  rcases (show t = 4 ∨ t = 5 ∨ t = 6 by omega) with h | h | h <;> subst h <;> rfl
theorem dw_elR {t : Nat} : (dwEl t).isReference = true := by
  unfold dwEl
  split
  · rfl
  · split <;> rfl
theorem v_aI (cx : dwCx g z M0 p l R s m args meth c own cc nL) {a : Nat} {i : Int32} {K : Int32 → Option ρ} (hf : xaI M a i K = some res) (hdg : decode cc pc = .ok (.iaload, 1)) (k : ∀ v, K v = some res → dwV g z p l e R s m args below meth c M Q (F0 m (pc + 1) ls (.int v :: rest))) : dwV g z p l e R s m args below meth c M Q (F0 m pc ls (.int i :: .ref a :: rest)) := by
  intro H locs cells slots hS hL
  unfold xaI at hf
  obtain ⟨⟨hk, hin⟩, h2⟩ := ite_e hf
  obtain ⟨hin1, hlt⟩ := dw_in hin
  rcases hk with hk | hk
  · exact W.iald cx.1 cx.2.1 ((hS.2.2.2.2.2.1 a).2.1 _ (dw_kd hk)) (dw_ao cx (t := 0) rfl _ _) (arrV_vm _ _ _) (by rw [arrV_size]; exact hin1) (arrV_read _ _ hlt) rfl rfl hdg (k _ h2 H locs cells slots hS hL)
  · obtain ⟨cell, c1, c2, c3, c4, c5⟩ := (hS.2.2.2.2.2.1 a).2.2.2.2.2.2.1 _ (dw_kd hk)
    exact W.iald cx.1 cx.2.1 c1 (State.isArrayOf_alike cx.2.2.2.2.2.2.2.1.alike c2) c3 (fun q => hin1 (q.imp id (fun h => Nat.le_trans c4.1 h))) (c5 _ hlt) rfl rfl hdg (k _ h2 H locs cells slots hS hL)
theorem v_aB (cx : dwCx g z M0 p l R s m args meth c own cc nL) {a : Nat} {i : Int32} {K : Int32 → Option ρ} (hf : xaB M a i K = some res) (hdg : decode cc pc = .ok (.baload, 1)) (k : ∀ v, K v = some res → dwV g z p l e R s m args below meth c M Q (F0 m (pc + 1) ls (.int v :: rest))) : dwV g z p l e R s m args below meth c M Q (F0 m pc ls (.int i :: .ref a :: rest)) := by
  intro H locs cells slots hS hL
  unfold xaB at hf
  obtain ⟨⟨hk, hin⟩, h2⟩ := ite_e hf
  obtain ⟨hin1, hlt⟩ := dw_in hin
  rcases hk with hk | hk
  · exact W.bald cx.1 cx.2.1 ((hS.2.2.2.2.2.1 a).2.2.1 _ (dw_kd hk)) (dw_ao cx (t := 1) rfl _ _) (arrV_vm _ _ _) (by rw [arrV_size]; exact hin1) (arrV_read _ _ hlt) rfl rfl hdg (k _ h2 H locs cells slots hS hL)
  · obtain ⟨cell, c1, c2, c3, c4, c5⟩ := (hS.2.2.2.2.2.1 a).2.2.2.2.2.2.2 _ (dw_kd hk)
    exact W.bald cx.1 cx.2.1 c1 (State.isArrayOf_alike cx.2.2.2.2.2.2.2.1.alike c2) c3 (fun q => hin1 (q.imp id (fun h => Nat.le_trans c4.1 h))) (c5 _ hlt) rfl rfl hdg (k _ h2 H locs cells slots hS hL)
theorem v_aL (cx : dwCx g z M0 p l R s m args meth c own cc nL) {a : Nat} {i : Int32} {K : Int64 → Option ρ} (hf : xaL M a i K = some res) (hdg : decode cc pc = .ok (.laload, 1)) (k : ∀ v, K v = some res → dwV g z p l e R s m args below meth c M Q (F0 m (pc + 1) ls (.long v :: rest))) : dwV g z p l e R s m args below meth c M Q (F0 m pc ls (.int i :: .ref a :: rest)) := by
  intro H locs cells slots hS hL
  unfold xaL at hf
  obtain ⟨⟨hk, hin⟩, h2⟩ := ite_e hf
  obtain ⟨hin1, hlt⟩ := dw_in hin
  exact W.lald cx.1 cx.2.1 ((hS.2.2.2.2.2.1 a).2.2.2.1 _ (dw_kd hk)) (dw_ao cx (t := 2) rfl _ _) (arrV_vm _ _ _) (by rw [arrV_size]; exact hin1) (arrV_read _ _ hlt) rfl rfl hdg (k _ h2 H locs cells slots hS hL)
theorem v_aN (cx : dwCx g z M0 p l R s m args meth c own cc nL) {t a : Nat} {i : Int32} (ht1 : 4 ≤ t) (ht2 : t ≤ 6) {K : Option Nat → Option ρ} (hf : xaN M t a i K = some res) (hdg : decode cc pc = .ok (.aaload, 1)) (k : ∀ v, K v = some res → dwV g z p l e R s m args below meth c M Q (F0 m (pc + 1) ls (va_rf v :: rest))) : dwV g z p l e R s m args below meth c M Q (F0 m pc ls (.int i :: .ref a :: rest)) := by
  intro H locs cells slots hS hL
  unfold xaN at hf
  obtain ⟨⟨hk, hin⟩, h2⟩ := ite_e hf
  obtain ⟨hin1, hlt⟩ := dw_in hin
  exact W.aald cx.1 cx.2.1 ((hS.2.2.2.2.2.1 a).2.2.2.2.1 t _ ht1 ht2 (dw_kd hk)) (dw_ao cx (dw_el ht1 ht2) _ _) dw_elR (arrV_vm _ _ _) (by rw [arrV_size]; exact hin1) (arrV_read _ _ hlt) rfl rfl hdg (k _ h2 H locs cells slots hS hL)
theorem v_aR (cx : dwCx g z M0 p l R s m args meth c own cc nL) {t a : Nat} {i : Int32} (ht1 : 4 ≤ t) (ht2 : t ≤ 6) {K : Nat → Option ρ} (hf : xaR M t a i K = some res) (hdg : decode cc pc = .ok (.aaload, 1)) (k : ∀ v, K v = some res → dwV g z p l e R s m args below meth c M Q (F0 m (pc + 1) ls (.ref v :: rest))) : dwV g z p l e R s m args below meth c M Q (F0 m pc ls (.int i :: .ref a :: rest)) := by
  unfold xaR at hf
  obtain ⟨h1, h2⟩ := ite_e hf
  cases hr : dwR M a i.toNatClampNeg with
  | none => rw [hr] at h2; exact dw_no h2
  | some v =>
    rw [hr] at h2
    refine v_aN cx ht1 ht2 (K := fun r => if r = some v then some res else none) (by unfold xaN; rw [if_pos h1, hr]; exact if_pos rfl) hdg (fun v' hv => ?_)
    obtain ⟨h3, -⟩ := ite_e hv
    subst h3
    exact k v h2
theorem v_len (cx : dwCx g z M0 p l R s m args meth c own cc nL) {a : Nat} {K : Int32 → Option ρ} (hf : xlen M a K = some res) (hdg : decode cc pc = .ok (.arraylength, 1)) (k : ∀ v, K v = some res → dwV g z p l e R s m args below meth c M Q (F0 m (pc + 1) ls (.int v :: rest))) : dwV g z p l e R s m args below meth c M Q (F0 m pc ls (.ref a :: rest)) := by
  intro H locs cells slots hS hL
  unfold xlen at hf
  obtain ⟨⟨k1, k2⟩, h2⟩ := ite_e hf
  have hok := hS.2.2.2.2.2.1 a
  have fin : ∀ {cell : Cell} {ty : FieldType}, H[a]? = some cell → s.isArrayOf cell ty → cell.slots.size.toInt32 = Int32.ofNat (dwK M a).2 → W p l e R s m args below meth c H locs cells slots Q (F0 m pc ls (.ref a :: rest)) := fun h3 h4 h5 =>
    W.alen (n := Int32.ofNat (dwK M a).2) cx.1 cx.2.1 h3 h4 h5 rfl rfl hdg (k _ h2 H locs cells slots hS hL)
  have hcases : (dwK M a).1 = 1 ∨ (dwK M a).1 = 2 ∨ (dwK M a).1 = 3 ∨ (4 ≤ (dwK M a).1 ∧ (dwK M a).1 ≤ 6) ∨ (dwK M a).1 = 11 ∨ (dwK M a).1 = 12 := by omega
  rcases hcases with h | h | h | ⟨h, h'⟩ | h | h
  · exact fin (hok.2.1 _ (dw_kd h)) (dw_ao cx (t := 0) rfl _ _) (by rw [arrV_size] <;> rfl)
  · exact fin (hok.2.2.1 _ (dw_kd h)) (dw_ao cx (t := 1) rfl _ _) (by rw [arrV_size] <;> rfl)
  · exact fin (hok.2.2.2.1 _ (dw_kd h)) (dw_ao cx (t := 2) rfl _ _) (by rw [arrV_size] <;> rfl)
  · exact fin (hok.2.2.2.2.1 _ _ h h' rfl) (dw_ao cx (dw_el h h') _ _) (by rw [arrV_size] <;> rfl)
  · obtain ⟨cell, c1, c2, c3, c4, c5⟩ := hok.2.2.2.2.2.2.1 _ (dw_kd h)
    exact fin c1 (State.isArrayOf_alike cx.2.2.2.2.2.2.2.1.alike c2) c4.2
  · obtain ⟨cell, c1, c2, c3, c4, c5⟩ := hok.2.2.2.2.2.2.2 _ (dw_kd h)
    exact fin c1 (State.isArrayOf_alike cx.2.2.2.2.2.2.2.1.alike c2) c4.2

theorem v_sI (cx : dwCx g z M0 p l R s m args meth c own cc nL) {a : Nat} {i : Int32} {v : Int32} {K : dwSt → Option ρ} (hf : xsI M a i v K = some res) (hdg : decode cc pc = .ok (.iastore, 1)) (k : ∀ M', K M' = some res → dwV g z p l e R s m args below meth c M' Q (F0 m (pc + 1) ls rest)) : dwV g z p l e R s m args below meth c M Q (F0 m pc ls (.int v :: .int i :: .ref a :: rest)) := by
  intro H locs cells slots hS hL
  unfold xsI at hf
  obtain ⟨⟨hk, hin⟩, h2⟩ := ite_e hf
  obtain ⟨hin1, hlt⟩ := dw_in hin
  have hcell := (hS.2.2.2.2.2.1 a).2.1 _ (dw_kd hk)
  refine W.iast cx.1 cx.2.1 hcell (dw_ao cx (t := 0) rfl _ _) (arrV_vm _ _ _) (by rw [arrV_size]; exact hin1) rfl rfl hdg fun H' e1 e2 e3 => k _ h2 H' _ cells slots (hS.upd (a := a) (by rw [hk]; decide) rfl rfl rfl rfl rfl (fun b hb => ?_) e2 e3 (fun x x' y y' => ?_) (dw_okA1 (n := (dwK M a).2) (dw_kd hk) ?_)) (fun q hq => ?_)
  · refine ⟨?_, ?_, ?_⟩ <;> first | rfl | (funext j; simp [dwPI, dwPL, dwPR, dwI, dwL, dwR, up2, hb])
  · cases hcell.symm.trans y
    cases e1.symm.trans y'
    exact k2_slotsz _ _ _
  · rw [e1, arrV_store]
    congr 2
    funext j
    unfold updV
    by_cases hj : j = i.toNatClampNeg
    · simp [hj, dwPI, dwPL, dwI, dwL, up2]
    · simp [hj, dwPI, dwPL, dwI, dwL, up2]
  · rcases List.mem_append.mp hq with h9 | h9
    · exact hL q h9
    · rw [List.mem_singleton.mp h9]
      exact (hS.2.2.2.1 a (by rw [hk]; decide)).1
theorem v_sB (cx : dwCx g z M0 p l R s m args meth c own cc nL) {a : Nat} {i : Int32} {v : Int32} {K : dwSt → Option ρ} (hf : xsB M a i v K = some res) (hdg : decode cc pc = .ok (.bastore, 1)) (k : ∀ M', K M' = some res → dwV g z p l e R s m args below meth c M' Q (F0 m (pc + 1) ls rest)) : dwV g z p l e R s m args below meth c M Q (F0 m pc ls (.int v :: .int i :: .ref a :: rest)) := by
  intro H locs cells slots hS hL
  unfold xsB at hf
  obtain ⟨⟨hk, hin⟩, h2⟩ := ite_e hf
  obtain ⟨hin1, hlt⟩ := dw_in hin
  have hcell := (hS.2.2.2.2.2.1 a).2.2.1 _ (dw_kd hk)
  refine W.bast cx.1 cx.2.1 hcell (dw_ao cx (t := 1) rfl _ _) (arrV_vm _ _ _) (by rw [arrV_size]; exact hin1) rfl rfl hdg fun H' e1 e2 e3 => k _ h2 H' _ cells slots (hS.upd (a := a) (by rw [hk]; decide) rfl rfl rfl rfl rfl (fun b hb => ?_) e2 e3 (fun x x' y y' => ?_) (dw_okA2 (n := (dwK M a).2) (dw_kd hk) ?_)) (fun q hq => ?_)
  · refine ⟨?_, ?_, ?_⟩ <;> first | rfl | (funext j; simp [dwPI, dwPL, dwPR, dwI, dwL, dwR, up2, hb])
  · cases hcell.symm.trans y
    cases e1.symm.trans y'
    exact k2_slotsz _ _ _
  · rw [e1, arrV_store]
    congr 2
    funext j
    unfold updV
    by_cases hj : j = i.toNatClampNeg
    · simp [hj, dwPI, dwPL, dwI, dwL, up2, narrow_byte]
    · simp [hj, dwPI, dwPL, dwI, dwL, up2]
  · rcases List.mem_append.mp hq with h9 | h9
    · exact hL q h9
    · rw [List.mem_singleton.mp h9]
      exact (hS.2.2.2.1 a (by rw [hk]; decide)).1
theorem v_sL (cx : dwCx g z M0 p l R s m args meth c own cc nL) {a : Nat} {i : Int32} {v : Int64} {K : dwSt → Option ρ} (hf : xsL M a i v K = some res) (hdg : decode cc pc = .ok (.lastore, 1)) (k : ∀ M', K M' = some res → dwV g z p l e R s m args below meth c M' Q (F0 m (pc + 1) ls rest)) : dwV g z p l e R s m args below meth c M Q (F0 m pc ls (.long v :: .int i :: .ref a :: rest)) := by
  intro H locs cells slots hS hL
  unfold xsL at hf
  obtain ⟨⟨hk, hin⟩, h2⟩ := ite_e hf
  obtain ⟨hin1, hlt⟩ := dw_in hin
  have hcell := (hS.2.2.2.2.2.1 a).2.2.2.1 _ (dw_kd hk)
  refine W.last cx.1 cx.2.1 hcell (dw_ao cx (t := 2) rfl _ _) (arrV_vm _ _ _) (by rw [arrV_size]; exact hin1) rfl rfl hdg fun H' e1 e2 e3 => k _ h2 H' _ cells slots (hS.upd (a := a) (by rw [hk]; decide) rfl rfl rfl rfl rfl (fun b hb => ?_) e2 e3 (fun x x' y y' => ?_) (dw_okA3 (n := (dwK M a).2) (dw_kd hk) ?_)) (fun q hq => ?_)
  · refine ⟨?_, ?_, ?_⟩ <;> first | rfl | (funext j; simp [dwPI, dwPL, dwPR, dwI, dwL, dwR, up2, hb])
  · cases hcell.symm.trans y
    cases e1.symm.trans y'
    exact k2_slotsz _ _ _
  · rw [e1, arrV_store]
    congr 2
    funext j
    unfold updV
    by_cases hj : j = i.toNatClampNeg
    · simp [hj, dwPI, dwPL, dwI, dwL, up2]
    · simp [hj, dwPI, dwPL, dwI, dwL, up2]
  · rcases List.mem_append.mp hq with h9 | h9
    · exact hL q h9
    · rw [List.mem_singleton.mp h9]
      exact (hS.2.2.2.1 a (by rw [hk]; decide)).1
end ROWC
