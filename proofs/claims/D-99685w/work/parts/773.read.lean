/-! A LAND read: the twin's tables -/
def tRT (b : Nat) (M : dwSt) (T : dvT) : Prop := dwI M (b + 57) 0 = Int32.ofNat (tP T) ∧ dwI M (b + 57) 1 = Int32.ofNat (tJ T) ∧ dwI M (b + 57) 2 = Int32.ofNat (tS T) ∧ dwI M (b + 57) 3 = tjug T ∧ dwI M (b + 57) 4 = tdr T ∧ (∀ p i, p < tP T → i < 2 → dwI M (b + 60 + p) i = tpe T p i) ∧ (∀ j i, j < tJ T → i < 2 → dwI M (b + 76 + j) i = tjo T j i) ∧ (∀ e i, e < tS T → i < 2 → dwI M (b + 90 + e) i = tst T e i)
theorem near_bits {T : dvT} {a : Nat} (hO : tOK T) (ha : a < 7) : ∀ n, n ≤ tS T → ∃ m, m < 128 ∧ itr (fun e x => x ||| (if tst T e 0 = Int32.ofNat a then bI (tst T e 1) else if tst T e 1 = Int32.ofNat a then bI (tst T e 0) else 0)) 0 n = Int32.ofNat m ∧ ∀ c, c < 7 → (m.testBit c = true ↔ ∃ e, e < n ∧ ((tst T e 0 = Int32.ofNat a ∧ tst T e 1 = Int32.ofNat c) ∨ (tst T e 0 = Int32.ofNat c ∧ tst T e 1 = Int32.ofNat a))) := by
  intro n
  induction n with
  | zero => intro _; exact ⟨0, by omega, rfl, fun c hc => by rw [Nat.zero_testBit]; exact ⟨fun z => absurd z (by decide), fun ⟨e, he, _⟩ => absurd he (Nat.not_lt_zero e)⟩⟩
  | succ n ih =>
    intro hn
    obtain ⟨m, h1, h2, h3⟩ := ih (by omega)
    have hP := hO.1
    obtain ⟨x, y, hx, hy, hne, e0, e1⟩ := hO.2.2.2.2.2.1 n (by omega)
    rw [← itr_s, h2, e0, e1]
    have iA : (Int32.ofNat x = Int32.ofNat a) ↔ x = a := i_inj (by omega) (by omega)
    have iB : (Int32.ofNat y = Int32.ofNat a) ↔ y = a := i_inj (by omega) (by omega)
    have ext : ∀ c, c < 7 → ((∃ e, e < n + 1 ∧ ((tst T e 0 = Int32.ofNat a ∧ tst T e 1 = Int32.ofNat c) ∨ (tst T e 0 = Int32.ofNat c ∧ tst T e 1 = Int32.ofNat a))) ↔ (m.testBit c = true ∨ (x = a ∧ y = c) ∨ (x = c ∧ y = a))) := by
      intro c hc
      have iC : (Int32.ofNat y = Int32.ofNat c) ↔ y = c := i_inj (by omega) (by omega)
      have iD : (Int32.ofNat x = Int32.ofNat c) ↔ x = c := i_inj (by omega) (by omega)
      rw [h3 c hc]
      constructor
      · rintro ⟨e, he, q⟩
        by_cases en : e = n
        · subst en
          rw [e0, e1, iA, iB, iC, iD] at q
          exact Or.inr q
        · exact Or.inl ⟨e, by omega, q⟩
      · rintro (⟨e, he, q⟩ | q)
        · exact ⟨e, by omega, q⟩
        · exact ⟨n, by omega, by rw [e0, e1, iA, iB, iC, iD]; exact q⟩
    by_cases cx : x = a
    · refine ⟨m ||| 2 ^ y, Nat.or_lt_two_pow (n := 7) h1 (Nat.pow_lt_pow_right (by omega) (by omega)), ?_, fun c hc => ?_⟩
      · rw [if_pos (iA.mpr cx), bI_n y (by omega), i_or]
      · rw [ext c hc, Nat.testBit_or, Nat.testBit_two_pow]
        simp only [Bool.or_eq_true, decide_eq_true_eq]
        constructor
        · rintro (z | z)
          · exact Or.inl z
          · exact Or.inr (Or.inl ⟨cx, z⟩)
        · rintro (z | ⟨z, z'⟩ | ⟨z, z'⟩)
          · exact Or.inl z
          · exact Or.inr z'
          · exact absurd (cx.trans z'.symm) hne
    · by_cases cy : y = a
      · refine ⟨m ||| 2 ^ x, Nat.or_lt_two_pow (n := 7) h1 (Nat.pow_lt_pow_right (by omega) (by omega)), ?_, fun c hc => ?_⟩
        · rw [if_neg (fun z => cx (iA.mp z)), if_pos (iB.mpr cy), bI_n x (by omega), i_or]
        · rw [ext c hc, Nat.testBit_or, Nat.testBit_two_pow]
          simp only [Bool.or_eq_true, decide_eq_true_eq]
          constructor
          · rintro (z | z)
            · exact Or.inl z
            · exact Or.inr (Or.inr ⟨z, cy⟩)
          · rintro (z | ⟨z, z'⟩ | ⟨z, z'⟩)
            · exact Or.inl z
            · exact absurd z cx
            · exact Or.inr z
      · refine ⟨m, h1, ?_, fun c hc => ?_⟩
        · rw [if_neg (fun z => cx (iA.mp z)), if_neg (fun z => cy (iB.mp z)), show (0 : Int32) = Int32.ofNat 0 from rfl, i_or, Nat.or_zero]
        · rw [ext c hc]
          constructor
          · exact Or.inl
          · rintro (z | ⟨z, z'⟩ | ⟨z, z'⟩)
            · exact z
            · exact absurd z cx
            · exact absurd z' cy
theorem isSt_iff {T : dvT} {a c : Nat} (hO : tOK T) (ha : a < 7) (hc : c < 7) : isSt T a c ↔ ∃ e, e < tS T ∧ ((tst T e 0 = Int32.ofNat a ∧ tst T e 1 = Int32.ofNat c) ∨ (tst T e 0 = Int32.ofNat c ∧ tst T e 1 = Int32.ofNat a)) := by
  obtain ⟨m, h1, h2, h3⟩ := near_bits hO ha (tS T) (Nat.le_refl _)
  unfold isSt nearS
  rw [h2, has_n m h1 c hc, h3 c hc]
section LAND
variable {b : Nat} {M : dwSt} {A : dvA} {ρ : Type} {L : Nat} {T : dvT}
theorem t_isSt {a c : Nat} (hs : Sh b M) (h : tRT b M T) (hO : tOK T) (ha : a < 7) (hc : c < 7) : ∃ v, m_X10_isReadStreet M (b + 54) (Int32.ofNat a) (Int32.ofNat c) = some v ∧ ((v = 1 ∧ isSt T a c) ∨ (v = 0 ∧ ¬ isSt T a c)) := by
  rw [isSt_iff hO ha hc]
  have hS := hO.2.2.1
  have hP := hO.1
  obtain ⟨-, -, i2, -, -, -, -, iS⟩ := h
  unfold m_X10_isReadStreet
  rw [jn_u, jn_u]
  refine lpx (E := fun z => ∃ v, z = some v ∧ ((v = 1 ∧ ∃ e, e < tS T ∧ ((tst T e 0 = Int32.ofNat a ∧ tst T e 1 = Int32.ofNat c) ∨ (tst T e 0 = Int32.ofNat c ∧ tst T e 1 = Int32.ofNat a))) ∨ (v = 0 ∧ ¬ ∃ e, e < tS T ∧ ((tst T e 0 = Int32.ofNat a ∧ tst T e 1 = Int32.ofNat c) ∨ (tst T e 0 = Int32.ofNat c ∧ tst T e 1 = Int32.ofNat a))))) (fun f i (_ : Unit) => L_X10_isReadStreet_2 M (b + 54) (Int32.ofNat a) (Int32.ofNat c) (fun _ => some 1) (fun _ => some 0) f (Int32.ofNat i)) (tS T) (fun i _ => ∀ e, e < i → ¬ ((tst T e 0 = Int32.ofNat a ∧ tst T e 1 = Int32.ofNat c) ∨ (tst T e 0 = Int32.ofNat c ∧ tst T e 1 = Int32.ofNat a))) ?_ ?_ 1000000 0 () (by omega) (by omega) (fun e he => absurd he (Nat.not_lt_zero e))
  · intro f _ hno
    show ∃ v, L_X10_isReadStreet_2 M (b + 54) (Int32.ofNat a) (Int32.ofNat c) _ _ (f + 1) (Int32.ofNat (tS T)) = some v ∧ _
    rw [L_X10_isReadStreet_2, gp54_55 hs, xaI_u (by rw [kd57 hs]) (by rw [kd57 hs]; exact inb_n (i := 2) (by omega) (by omega)), show (2 : Int32).toNatClampNeg = 2 from rfl, i2, if_pos (Int32.le_refl _)]
    exact ⟨0, rfl, Or.inr ⟨rfl, fun ⟨e, he, z⟩ => hno e he z⟩⟩
  · intro f i _ hi hno hnx
    have hnx' := hnx ()
    obtain ⟨x, y, hx, hy, hne, e0, e1⟩ := hO.2.2.2.2.2.1 i hi
    have iA : (Int32.ofNat x = Int32.ofNat a) ↔ x = a := i_inj (by omega) (by omega)
    have iB : (Int32.ofNat y = Int32.ofNat c) ↔ y = c := i_inj (by omega) (by omega)
    have iC : (Int32.ofNat x = Int32.ofNat c) ↔ x = c := i_inj (by omega) (by omega)
    have iD : (Int32.ofNat y = Int32.ofNat a) ↔ y = a := i_inj (by omega) (by omega)
    have kr := kr89 hs i (by omega)
    have rd0 : ∀ {σ : Type} (K : Int32 → Option σ), xgR M 61 (b + 54) (fun v3 => xaR M 4 v3 (Int32.ofNat i) (fun v4 => xaI M v4 0 K)) = K (Int32.ofNat x) := fun K => by
      rw [gp54_61 hs, xr89 hs (by omega), show b + 89 + 1 + i = b + 90 + i by omega]
      rw [show b + 89 + 1 + i = b + 90 + i by omega] at kr
      rw [xaI_u (by rw [kr]) (by rw [kr]; exact inb_n (i := 0) (by omega) (by omega)), show (0 : Int32).toNatClampNeg = 0 from rfl, iS i 0 hi (by omega), e0]
    have rd1 : ∀ {σ : Type} (K : Int32 → Option σ), xgR M 61 (b + 54) (fun v3 => xaR M 4 v3 (Int32.ofNat i) (fun v4 => xaI M v4 1 K)) = K (Int32.ofNat y) := fun K => by
      rw [gp54_61 hs, xr89 hs (by omega), show b + 89 + 1 + i = b + 90 + i by omega]
      rw [show b + 89 + 1 + i = b + 90 + i by omega] at kr
      rw [xaI_u (by rw [kr]) (by rw [kr]; exact inb_n (i := 1) (by omega) (by omega)), show (1 : Int32).toNatClampNeg = 1 from rfl, iS i 1 hi (by omega), e1]
    show ∃ v, L_X10_isReadStreet_2 M (b + 54) (Int32.ofNat a) (Int32.ofNat c) _ _ (f + 1) (Int32.ofNat i) = some v ∧ _
    rw [L_X10_isReadStreet_2, gp54_55 hs, xaI_u (by rw [kd57 hs]) (by rw [kd57 hs]; exact inb_n (i := 2) (by omega) (by omega)), show (2 : Int32).toNatClampNeg = 2 from rfl, i2, if_neg (of_eq_false (i_geF hi (by omega))), rd0, jn_u, rd0, rd1, jn_u, rd1, i_succ]
    have yes : ((x = a ∧ y = c) ∨ (x = c ∧ y = a)) → ∃ v : Int32, (some (1 : Int32)) = some v ∧ ((v = 1 ∧ ∃ e, e < tS T ∧ ((tst T e 0 = Int32.ofNat a ∧ tst T e 1 = Int32.ofNat c) ∨ (tst T e 0 = Int32.ofNat c ∧ tst T e 1 = Int32.ofNat a))) ∨ (v = 0 ∧ ¬ ∃ e, e < tS T ∧ ((tst T e 0 = Int32.ofNat a ∧ tst T e 1 = Int32.ofNat c) ∨ (tst T e 0 = Int32.ofNat c ∧ tst T e 1 = Int32.ofNat a)))) := fun q => ⟨1, rfl, Or.inl ⟨rfl, i, hi, by rw [e0, e1, iA, iB, iC, iD]; exact q⟩⟩
    by_cases q : (x = a ∧ y = c) ∨ (x = c ∧ y = a)
    · by_cases q1 : x = a ∧ y = c
      · rw [if_pos (iA.mpr q1.1), if_pos (iB.mpr q1.2)]; exact yes q
      · have q2 := q.resolve_left q1
        have nb : ¬ (x = a ∧ y = c) := q1
        by_cases xa : x = a
        · rw [if_pos (iA.mpr xa), if_neg (fun z => nb ⟨xa, iB.mp z⟩), if_pos (iC.mpr q2.1), if_pos (iD.mpr q2.2)]; exact yes q
        · rw [if_neg (fun z => xa (iA.mp z)), if_pos (iC.mpr q2.1), if_pos (iD.mpr q2.2)]; exact yes q
    · have go := hnx' (fun e he z => by
        by_cases en : e = i
        · subst en
          rw [e0, e1, iA, iB, iC, iD] at z
          exact q z
        · exact hno e (by omega) z)
      have n1 : ¬ (x = a ∧ y = c) := fun z => q (Or.inl z)
      have n2 : ¬ (x = c ∧ y = a) := fun z => q (Or.inr z)
      have tail : ∀ Z : Option Int32, (∃ v, Z = some v ∧ ((v = 1 ∧ ∃ e, e < tS T ∧ ((tst T e 0 = Int32.ofNat a ∧ tst T e 1 = Int32.ofNat c) ∨ (tst T e 0 = Int32.ofNat c ∧ tst T e 1 = Int32.ofNat a))) ∨ (v = 0 ∧ ¬ ∃ e, e < tS T ∧ ((tst T e 0 = Int32.ofNat a ∧ tst T e 1 = Int32.ofNat c) ∨ (tst T e 0 = Int32.ofNat c ∧ tst T e 1 = Int32.ofNat a))))) → ∃ v, (if Int32.ofNat x = Int32.ofNat c then (if Int32.ofNat y = Int32.ofNat a then some 1 else Z) else Z) = some v ∧ ((v = 1 ∧ ∃ e, e < tS T ∧ ((tst T e 0 = Int32.ofNat a ∧ tst T e 1 = Int32.ofNat c) ∨ (tst T e 0 = Int32.ofNat c ∧ tst T e 1 = Int32.ofNat a))) ∨ (v = 0 ∧ ¬ ∃ e, e < tS T ∧ ((tst T e 0 = Int32.ofNat a ∧ tst T e 1 = Int32.ofNat c) ∨ (tst T e 0 = Int32.ofNat c ∧ tst T e 1 = Int32.ofNat a)))) := by
        intro Z hZ
        by_cases xc : x = c
        · rw [if_pos (iC.mpr xc), if_neg (fun z => n2 ⟨xc, iD.mp z⟩)]; exact hZ
        · rw [if_neg (fun z => xc (iC.mp z))]; exact hZ
      by_cases xa : x = a
      · rw [if_pos (iA.mpr xa), if_neg (fun z => n1 ⟨xa, iB.mp z⟩)]; exact tail _ go
      · rw [if_neg (fun z => xa (iA.mp z))]; exact tail _ go
end LAND
