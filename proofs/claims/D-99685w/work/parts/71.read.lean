/-! READING numbers -/
abbrev dgN (v : Nat) : Prop := 48 ≤ v ∧ v ≤ 57
/-- digits from p on: the number (100000 at most) and where they end -/
def nuF (X : Nat → Nat) (L : Nat) : Nat → Nat → Nat → Nat × Nat
  | 0, u, p => (u, p)
  | n + 1, u, p => if p < L ∧ dgN (X p) then nuF X L n (min (10 * u + X p - 48) 100000) (p + 1) else (u, p)
def nuS (X : Nat → Nat) (L u p : Nat) : Nat × Nat := nuF X L (L - p) u p
theorem nuS_y {X : Nat → Nat} {L u p : Nat} (h : p < L) (hx : dgN (X p)) : nuS X L u p = nuS X L (min (10 * u + X p - 48) 100000) (p + 1) := by
  unfold nuS
  rw [show L - p = (L - (p + 1)) + 1 by omega]
  show (if _ then _ else _) = _
  rw [if_pos ⟨h, hx⟩]
theorem nuS_n {X : Nat → Nat} {L u p : Nat} (h : ¬ (p < L ∧ dgN (X p))) : nuS X L u p = (u, p) := by
  unfold nuS
  cases L - p with
  | zero => rfl
  | succ n => show (if _ then _ else _) = _; rw [if_neg h]
theorem nuS_le {X : Nat → Nat} {L : Nat} : ∀ n u p, L - p = n → u ≤ 100000 → (nuS X L u p).1 ≤ 100000 ∧ p ≤ (nuS X L u p).2 ∧ (p ≤ L → (nuS X L u p).2 ≤ L) := by
  intro n
  induction n with
  | zero => intro u p h hu; rw [nuS_n (by omega)]; exact ⟨hu, Nat.le_refl _, fun q => q⟩
  | succ n ih =>
    intro u p h hu
    by_cases hx : dgN (X p)
    · rw [nuS_y (by omega) hx]
      obtain ⟨a, c, d⟩ := ih (min (10 * u + X p - 48) 100000) (p + 1) (by omega) (Nat.min_le_right _ _)
      exact ⟨a, by omega, fun q => d (by omega)⟩
    · rw [nuS_n (fun q => hx q.2)]; exact ⟨hu, Nat.le_refl _, fun q => q⟩
theorem i_min {n : Nat} (h : n < 2147483648) : (if (100000 : Int32) < Int32.ofNat n then 100000 else Int32.ofNat n) = Int32.ofNat (min n 100000) := by
  have : ((100000 : Int32) < Int32.ofNat n) = (100000 < n) := by rw [show (100000 : Int32) = Int32.ofNat 100000 from rfl, i_lt (by omega) h]
  by_cases e : 100000 < n
  · rw [if_pos (this ▸ e), Nat.min_eq_right (by omega)]; rfl
  · rw [if_neg (fun q => e (this ▸ q)), Nat.min_eq_left (by omega)]
section READ
variable {b : Nat} {M : dwSt} {A : dvA} {ρ : Type}
theorem b_dig {v : Nat} (h1 : 48 ≤ v) (h2 : v < 128) : (Int32.ofNat v).toInt8.toInt32 = Int32.ofNat v := by
  rw [← Int32.toInt_inj, b_int v (by omega), if_pos h2, i_toInt (by omega)]
theorem c_digits {E : Option ρ → Prop} {K : Int32 → dwSt → Option ρ} {o ci L : Nat} {x1 x2 : Int32} (hL : L ≤ (aTx A).1) : ∀ n p u f (M1 : dwSt), L - p = n → n < f → p ≤ L → u ≤ 100000 → tpC b M1 A → rdr b M1 o ci L → dwI M1 o 92 = Int32.ofNat p → (∀ M2, fr (sPo o) nz 0 0 M1 M2 → dwI M2 o 92 = Int32.ofNat (nuS (xbN A) L u p).2 → E (K (Int32.ofNat (nuS (xbN A) L u p).1) M2)) → E (L_X11_number_33 o x1 x2 K f (Int32.ofNat u) M1) := by
  intro n
  induction n with
  | zero =>
    intro p u f M1 h1 h2 h3 hu ht hr hp hE
    obtain ⟨f', rfl⟩ : ∃ f', f = f' + 1 := ⟨f - 1, by omega⟩
    have g := rdr_h hr
    have : (Int32.ofNat L ≤ Int32.ofNat p) = True := by rw [show p = L by omega]; exact i_geT L
    rw [nuS_n (by omega)] at hE
    rw [L_X11_number_33, xgI_u (g 92 (by omega) (by omega)).1, xgI_u (g 91 (by omega) (by omega)).1, hp, hr.2.2.2.2.2, if_pos (of_eq_true this)]
    exact hE M1 (fr.refl M1) hp
  | succ n ih =>
    intro p u f M1 h1 h2 h3 hu ht hr hp hE
    obtain ⟨f', rfl⟩ : ∃ f', f = f' + 1 := ⟨f - 1, by omega⟩
    have g := rdr_h hr
    have ho := ht.2.1
    have hob := hr.2.1
    have hlt : (Int32.ofNat L ≤ Int32.ofNat p) = False := i_geF (by omega) (by omega)
    obtain ⟨v1, v2⟩ := ht.2.2 p (by omega)
    have rd : ∀ (K' : Int32 → Option ρ), xgR M1 90 o (fun v => xgI M1 92 o (fun v' => xaB M1 v v' K')) = K' (Int32.ofNat (xbN A p)).toInt8.toInt32 := fun K' => by
      rw [xgR_v (g 90 (by omega) (by omega)).1 hr.2.2.2.2.1, xgI_u (g 92 (by omega) (by omega)).1, hp, xaB_u (by rw [kd39 ht.1]) (by rw [kd39 ht.1]; exact inb_n (by omega) (by omega)), i_nat (by omega), v2]
    have l1 := b_lt' _ v1 48 (by omega)
    have l2 := b_gt' _ v1 57 (by omega)
    rw [L_X11_number_33, xgI_u (g 92 (by omega) (by omega)).1, xgI_u (g 91 (by omega) (by omega)).1, hp, hr.2.2.2.2.2, if_neg (of_eq_false hlt), rd]
    by_cases hx : dgN (xbN A p)
    · have hx1 := hx.1
      have hx2 := hx.2
      have n1 : ¬ (Int32.ofNat (xbN A p)).toInt8.toInt32 < 48 := fun q => by have := l1.mp q; omega
      have n2 : ¬ (57 : Int32) < (Int32.ofNat (xbN A p)).toInt8.toInt32 := fun q => by have := l2.mp q; omega
      have e10u : (10 : Int32) * Int32.ofNat u + Int32.ofNat (xbN A p) - 48 = Int32.ofNat (10 * u + xbN A p - 48) := by
        rw [show (10 : Int32) = Int32.ofNat 10 from rfl, i_mul, i_add, show (48 : Int32) = Int32.ofNat 48 from rfl, i_sub (by omega)]
      rw [if_neg n1, rd, if_neg n2, rd, b_dig hx1 (by omega), e10u, xgI_u (g 92 (by omega) (by omega)).1, hp, i_succ, xpI_u (g 92 (by omega) (by omega)).2, i_min (by omega)]
      have f1 : fr (sPo o) nz 0 0 M1 (dwPI M1 o 92 (Int32.ofNat (p + 1))) := (fr.refl M1).pI _ (Or.inl ⟨rfl, rfl⟩)
      rw [nuS_y (by omega) hx] at hE
      exact ih (p + 1) _ f' _ (by omega) (by omega) (by omega) (Nat.min_le_right _ _) (ht.fr f1 (fun k q => by have := q.1; omega) nz_p) (hr.fr f1 (fun q => by have := q.2; omega) (fun q => q)) di_eq fun M2 f2 e2 => hE M2 (f1.t0 f2) e2
    · rw [nuS_n (fun q => hx q.2)] at hE
      by_cases c1 : (Int32.ofNat (xbN A p)).toInt8.toInt32 < 48
      · rw [if_pos c1]; exact hE M1 (fr.refl M1) hp
      · have c2 : (57 : Int32) < (Int32.ofNat (xbN A p)).toInt8.toInt32 := l2.mpr (by
          have : ¬ (xbN A p < 48 ∨ 128 ≤ xbN A p) := fun q => c1 (l1.mpr q)
          unfold dgN at hx; omega)
        rw [if_neg c1, rd, if_pos c2]
        exact hE M1 (fr.refl M1) hp
end READ
