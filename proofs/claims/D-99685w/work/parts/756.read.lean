/-! A BOOK read: the component -/
theorem jn_s {β ρ : Type} {F : β} {G : β → Option ρ} {E : Option ρ → Prop} (Q : β → Prop) (hF : Q F) (hG : ∀ K, Q K → E (G K)) : E (jn F G) := hG F hF
section READ
variable {b : Nat} {M : dwSt} {A : dvA} {ρ : Type}
/-- the reader of a book -/
def bC (b : Nat) (M : dwSt) (A : dvA) (o ra L J : Nat) (B : Nat × (Nat → Nat → Int32)) (p : Nat) : Prop := cAt b M A o 10 L p ∧ dwR M o 110 = some ra ∧ dwI M o 109 = Int32.ofNat J ∧ dwK M ra = (1, 6) ∧ (∀ j, j < 6 → dwI M ra j = bookS B j) ∧ dwI M o 111 = Int32.ofNat B.1 ∧ ra < dwN M ∧ b + 562 ≤ ra
def sBo (o ra : Nat) : Nat → Nat → Prop := fun a k => (a = o ∧ (k = 92 ∨ k = 93 ∨ k = 111)) ∨ a = ra
theorem bC.to {S : Nat → Nat → Prop} {n u o ra L J p q : Nat} {B : Nat × (Nat → Nat → Int32)} {M1 : dwSt} (h : bC b M A o ra L J B p) (f : fr S nz n u M M1) (hS : ∀ a k, S a k → a = o ∧ (k = 92 ∨ k = 93)) (k : cAt b M1 A o 10 L q) : bC b M1 A o ra L J B q := by
  obtain ⟨h1, h2, h3, h4, h5, h6, h7, h8⟩ := h
  have ho := h1.2.1.1
  have hne : ra ≠ o := fun e => by
    rw [e, h1.2.1.2.2.2.1] at h4; exact absurd (congrArg Prod.fst h4) (by decide)
  have hn := f.n
  exact ⟨k, (f.r ho (fun z => z)).trans h2, (f.i ho (fun z => by have := (hS _ _ z).2; omega)).trans h3, (f.k h7).trans h4, fun j hj => (f.i h7 (fun z => hne (hS _ _ z).1)).trans (h5 j hj), (f.i ho (fun z => by have := (hS _ _ z).2; omega)).trans h6, by omega, h8⟩
abbrev KX (β : Type) : Nat → Nat → dwSt → dwR9 β := fun cl q M => some (.inr (cl, q), M)
theorem c_boL {o ra L J N : Nat} (hJ : J ≤ 6) (hN : N ≤ o) (hNr : N ≤ ra) : ∀ n p f (B : Nat × (Nat → Nat → Int32)) (M1 : dwSt), L - p ≤ n → n < f → N ≤ dwN M1 → bC b M1 A o ra L J B p → room M1 1 8 → match boF (xbN A) L J n B p with
    | .inl B' => ∃ M2 p', L_X31_reads_26 (KX Nat) o (fun (M4 : dwSt) => xnew M4 5 (fun o5 M6 => xgI M6 93 o (fun v7 => xmb (m_X13_init M6 o5 2 v7) (fun _ M9 => xrk0 M9 o5 5 ((fun cl q M => some (.inr (cl, q), M)) 0 o5 M9))))) (fun (M10 : dwSt) => xgR M10 110 o (fun v11 => some (.inl v11, M10))) f M1 = some (.inl ra, M2) ∧ fr (sBo o ra) nz 0 0 M1 M2 ∧ bC b M2 A o ra L J B' p'
    | .inr e => bdC N 1 8 M1 e (L_X31_reads_26 (KX Nat) o (fun (M4 : dwSt) => xnew M4 5 (fun o5 M6 => xgI M6 93 o (fun v7 => xmb (m_X13_init M6 o5 2 v7) (fun _ M9 => xrk0 M9 o5 5 ((fun cl q M => some (.inr (cl, q), M)) 0 o5 M9))))) (fun (M10 : dwSt) => xgR M10 110 o (fun v11 => some (.inl v11, M10))) f M1) := by
  intro n
  have fin : ∀ p f (B : Nat × (Nat → Nat → Int32)) (M1 : dwSt), ¬ p < L → 0 < f → bC b M1 A o ra L J B p → ∃ M2 p', L_X31_reads_26 (KX Nat) o (fun (M4 : dwSt) => xnew M4 5 (fun o5 M6 => xgI M6 93 o (fun v7 => xmb (m_X13_init M6 o5 2 v7) (fun _ M9 => xrk0 M9 o5 5 ((fun cl q M => some (.inr (cl, q), M)) 0 o5 M9))))) (fun (M10 : dwSt) => xgR M10 110 o (fun v11 => some (.inl v11, M10))) f M1 = some (.inl ra, M2) ∧ fr (sBo o ra) nz 0 0 M1 M2 ∧ bC b M2 A o ra L J B p' := by
    intro p f B M1 hp hf h
    obtain ⟨f', rfl⟩ : ∃ f', f = f' + 1 := ⟨f - 1, by omega⟩
    have g := rdr_h h.1.2.1
    have hk := h.1.2.1.2.2.2.1
    have hpL := h.1.2.2.2.1
    refine ⟨M1, p, ?_, fr.refl M1, h⟩
    rw [L_X31_reads_26, xgI_u (g 92 (by omega) (by omega)).1, xgI_u (g 91 (by omega) (by omega)).1, h.1.2.2.1, h.1.2.1.2.2.2.2.2, show p = L by omega, if_pos (of_eq_true (i_geT L)), xgR_v (by rw [hk]; rfl) h.2.1]
  induction n with
  | zero =>
    intro p f B M1 h1 h2 hNn h hR
    exact fin p f B M1 (by omega) (by omega) h
  | succ n ih =>
    intro p f B M1 h1 h2 hNn h hR
    by_cases hp : p < L
    · obtain ⟨f', rfl⟩ : ∃ f', f = f' + 1 := ⟨f - 1, by omega⟩
      obtain ⟨kA, r110, i109, kra, hB, i111, hra, hra2⟩ := id h
      have g := rdr_h kA.2.1
      have hk := kA.2.1.2.2.2.1
      have ho := kA.2.1.1
      have h109 : ∀ (M' : dwSt), dwK M' o = (0, 10) → ∀ f, 90 ≤ f → f ≤ 111 → (f ≤ 94 ∨ 109 ≤ f) → dwHas (dwK M' o) f = true ∧ dwHasW (dwK M' o) f = true := fun M' e f q1 q2 q3 => by
        rw [e]
        rcases q3 with q | q
        · exact ⟨hs10 q1 q, hw10 q1 q⟩
        · exact ⟨hs10b q q2, hw10b q q2⟩
      have hnb : ¬ (Int32.ofNat L ≤ Int32.ofNat p) := of_eq_false (i_geF hp (by have := kA.1.2.1; have := kA.2.2.2.2; omega))
      have hL600 : L ≤ 600 := Nat.le_trans kA.2.2.2.2 kA.1.2.1
      have q1 := cA_num (lo := 0) (hi := Int32.ofNat J - 1) kA hN hR
      have hbd : ∀ (z : dwR9 Nat) (e : Nat × Nat), boE (xbN A) L J B p = .inr e → bdC N 1 8 M1 e z → (match boF (xbN A) L J (n + 1) B p with
        | .inl B' => ∃ M2 p', z = some (.inl ra, M2) ∧ fr (sBo o ra) nz 0 0 M1 M2 ∧ bC b M2 A o ra L J B' p'
        | .inr e => bdC N 1 8 M1 e z) := by
        intro z e hE hz
        rw [boF, if_pos hp, hE]
        exact hz
      rw [L_X31_reads_26, xgI_u (g 92 (by omega) (by omega)).1, xgI_u (g 91 (by omega) (by omega)).1, kA.2.2.1, kA.2.1.2.2.2.2.2, if_neg hnb, xgI_u (h109 M1 hk 109 (by omega) (by omega) (by omega)).1, i109, xrk_u hk]
      cases hJ2 : boJ (xbN A) L J p with
      | inr e =>
        have hJ3 : nbS (xbN A) L 0 (Int32.ofNat J - 1) p = .inr e := hJ2
        rw [hJ3] at q1
        refine hbd _ e ?_ (bdC.th q1)
        simp only [boE, boV, boQ, hJ2, nuR, poR, sgR]
      | inl z =>
        have hJ3 : nbS (xbN A) L 0 (Int32.ofNat J - 1) p = .inl z := hJ2
        rw [hJ3] at q1
        obtain ⟨M2, e2, f2, k2, hz, k93⟩ := q1
        obtain ⟨a1, a2, a3, a4⟩ := nbS_le kA.2.2.2.1 hJ3
        have hzJ : z.1 < J := inV_lt (by omega) (by omega) a4
        have h2B := h.to f2 (fun a k z => z) k2
        obtain ⟨-, r110', i109', kra', hB', i111', hra', -⟩ := id h2B
        have hk2 := k2.2.1.2.2.2.1
        have hR2 : room M2 1 8 := (hR.le (n' := 0 + 1) (u' := 0 + 8) (by omega) (by omega)).fr f2
        have hn2 := f2.n
        rw [e2, xth_v, xgR_v (h109 M2 hk2 110 (by omega) (by omega) (by omega)).1 r110', xaI_u (by rw [kra']) (by rw [kra']; exact inb_n (by omega) (by omega)), i_nat (by omega), hB' z.1 (by omega)]
        by_cases c : bookS B z.1 = -1
        · have hQ : boQ (xbN A) L J B p = .inl z.2 := by simp only [boQ, hJ2, c, if_true]
          have q3 := cA_num (lo := 0) (hi := 40) k2 hN hR2
          rw [if_pos c, xgR_v (h109 M2 hk2 110 (by omega) (by omega) (by omega)).1 r110', xrk_u hk2]
          cases hV : nbS (xbN A) L 0 40 z.2 with
          | inr e =>
            rw [hV] at q3
            refine hbd _ e ?_ ((bdC.pre (bdC.th q3) f2 (fun a k z => by have := z.1; omega) (fun _ _ z => False.elim z)).le (by omega) (by omega))
            simp only [boE, boV, hQ, nuR, hV, poR, sgR]
          | inl y =>
            rw [hV] at q3
            obtain ⟨M3, e3, f3, k3, hy, -⟩ := q3
            obtain ⟨b1, b2, b3, b4⟩ := nbS_le a3 hV
            have hy40 := (inV_le (lo := 0) (hi := 40) (by omega) (by omega) (by omega) b4).2
            have h3B := h2B.to f3 (fun a k z => z) k3
            obtain ⟨-, r110'', i109'', kra'', hB'', i111'', hra'', -⟩ := id h3B
            have hk3 := k3.2.1.2.2.2.1
            have hn3 := f3.n
            rw [e3, xth_v, xsI_u (by rw [kra'']) (by rw [kra'']; exact inb_n (by omega) (by omega)), i_nat (by omega)]
            have hne : ra ≠ o := fun e => by
              rw [e, hk] at kra; exact absurd (congrArg Prod.fst kra) (by decide)
            have f4 : fr (fun a k => a = ra) nz 0 0 M3 (dwPI M3 ra z.1 (Int32.ofNat y.1)) := (fr.refl M3).pI _ (Or.inl rfl)
            have k4 : cAt b (dwPI M3 ra z.1 (Int32.ofNat y.1)) A o 10 L y.2 := k3.fr f4 (fun a k z => ⟨by omega, fun e => absurd (z.symm.trans e) hne⟩) (fun _ _ z => False.elim z)
            have hk4 : dwK (dwPI M3 ra z.1 (Int32.ofNat y.1)) o = (0, 10) := hk3
            have hR3 : room M3 1 8 := (hR2.le (n' := 0 + 1) (u' := 0 + 8) (by omega) (by omega)).fr f3
            have hR4 : room (dwPI M3 ra z.1 (Int32.ofNat y.1)) 1 8 := (hR3.le (n' := 0 + 1) (u' := 0 + 8) (by omega) (by omega)).fr f4
            have F4 : fr (sBo o ra) nz 0 0 M1 (dwPI M3 ra z.1 (Int32.ofNat y.1)) := ((f2.t0 f3).mono (S' := sBo o ra) (Z' := nz) (fun a k z => Or.inl ⟨z.1, by have := z.2; omega⟩) (fun _ _ z => z) (Nat.le_refl _) (Nat.le_refl _)).t0 (f4.mono (fun a k z => Or.inr z) (fun _ _ z => z) (Nat.le_refl _) (Nat.le_refl _))
            have h4B : dwR (dwPI M3 ra z.1 (Int32.ofNat y.1)) o 110 = some ra ∧ dwI (dwPI M3 ra z.1 (Int32.ofNat y.1)) o 109 = Int32.ofNat J ∧ dwK (dwPI M3 ra z.1 (Int32.ofNat y.1)) ra = (1, 6) ∧ (∀ j, j < 6 → dwI (dwPI M3 ra z.1 (Int32.ofNat y.1)) ra j = bookS (bkAdd B z.1 y.1) j) ∧ dwI (dwPI M3 ra z.1 (Int32.ofNat y.1)) o 111 = Int32.ofNat B.1 ∧ ra < dwN (dwPI M3 ra z.1 (Int32.ofNat y.1)) := by
              refine ⟨r110'', ?_, kra'', fun j hj => ?_, ?_, hra''⟩
              · rw [di_ne (Or.inl (fun e => hne e.symm))]; exact i109''
              · rw [di_PI, bkAdd_s (by omega) (by omega)]
                by_cases e : j = z.1
                · rw [if_pos ⟨rfl, e⟩, if_pos e]
                · rw [if_neg (fun z => e z.2), if_neg e]; exact hB'' j hj
              · rw [di_ne (Or.inl (fun e => hne e.symm))]; exact i111''
            generalize dwPI M3 ra z.1 (Int32.ofNat y.1) = M4 at *
            obtain ⟨r4, i4, kra4, hB4, i114, hra4⟩ := h4B
            have q5 := cA_need (c := 59) (N := N) k4 (by omega) (by omega) hN hR4
            have q5' : ndC b A o 10 L N M4 (sgS (xbN A) L 59 y.2) (m_X11_need M4 o 59) () := q5
            rw [xrk_u hk4]
            cases hE : sgS (xbN A) L 59 y.2 with
            | inr e =>
              rw [hE] at q5'
              refine hbd _ e ?_ ((bdC.pre (bdC.th q5') F4 (fun a k z => by unfold sBo at z; have := kA.2.1.2.1; omega) (fun _ _ z => False.elim z)).le (by omega) (by omega))
              simp only [boE, boV, hQ, nuR, hV, poR, sgR, hE]
            | inl p' =>
              rw [hE] at q5'
              obtain ⟨M5, e5, f5, k5⟩ := q5'
              have hk5 := k5.2.1.2.2.2.1
              have hn4 := F4.n
              have i115 : dwI M5 o 111 = Int32.ofNat B.1 := (f5.i (by omega) (by unfold sPo; omega)).trans i114
              rw [e5, xth_v, xgI_u (h109 M5 hk5 111 (by omega) (by omega) (by omega)).1, i115, xpI_u (h109 M5 hk5 111 (by omega) (by omega) (by omega)).2, i_succ]
              have f6 : fr (fun a k => a = o ∧ k = 111) nz 0 0 M5 (dwPI M5 o 111 (Int32.ofNat (B.1 + 1))) := (fr.refl M5).pI _ (Or.inl ⟨rfl, rfl⟩)
              have k6 : cAt b (dwPI M5 o 111 (Int32.ofNat (B.1 + 1))) A o 10 L p' := k5.fr f6 (fun a k z => ⟨by have := kA.2.1.2.1; omega, fun _ => by omega⟩) (fun _ _ z => False.elim z)
              have hk6 : dwK (dwPI M5 o 111 (Int32.ofNat (B.1 + 1))) o = (0, 10) := hk5
              have i116 : dwI (dwPI M5 o 111 (Int32.ofNat (B.1 + 1))) o 111 = Int32.ofNat (B.1 + 1) := di_eq
              have F6 : fr (sBo o ra) nz 0 0 M4 (dwPI M5 o 111 (Int32.ofNat (B.1 + 1))) := (f5.mono (S' := sBo o ra) (Z' := nz) (fun a k z => Or.inl ⟨z.1, by have := z.2; omega⟩) (fun _ _ z => z) (Nat.le_refl _) (Nat.le_refl _)).t0 (f6.mono (fun a k z => Or.inl ⟨z.1, by omega⟩) (fun _ _ z => z) (Nat.le_refl _) (Nat.le_refl _))
              have f56 := (f5.mono (S' := fun a k => a = o ∧ (k = 92 ∨ k = 111)) (Z' := nz) (fun a k z => ⟨z.1, Or.inl z.2⟩) (fun _ _ z => z) (Nat.le_refl _) (Nat.le_refl _)).t0 (f6.mono (S' := fun a k => a = o ∧ (k = 92 ∨ k = 111)) (Z' := nz) (fun a k z => ⟨z.1, Or.inr z.2⟩) (fun _ _ z => z) (Nat.le_refl _) (Nat.le_refl _))
              generalize dwPI M5 o 111 (Int32.ofNat (B.1 + 1)) = M6 at *
              have h6 : bC b M6 A o ra L J (bkAdd B z.1 y.1) p' := ⟨k6, (f56.r (by omega) (fun z => z)).trans r4, (f56.i (by omega) (by omega)).trans i4, (f56.k hra4).trans kra4, fun j hj => (f56.i hra4 (fun z => hne z.1)).trans (hB4 j hj), i116, by have := f56.n; omega, hra2⟩
              obtain ⟨M7, e7, f7, k7⟩ := cA_sign k6
              have h7 := h6.to f7 (fun a k z => ⟨z.1, Or.inl z.2⟩) k7
              rw [xrk_u hk6, e7, xmb_v]
              have hsg : p' ≤ blS (xbN A) L p' := (blS_le _ p' rfl).1
              have hpp : p < p' := by
                have hE2 : boE (xbN A) L J B p = .inl p' := by simp only [boE, boV, hQ, nuR, hV, poR, sgR, hE]
                obtain ⟨_, _, _, _, _, _, _, _, h, _⟩ := boE_inl kA.2.2.2.1 (by omega) hE2
                exact h
              have F17 : fr (sBo o ra) nz 0 0 M1 M7 := (F4.t0 F6).t0 (f7.mono (fun a k z => Or.inl ⟨z.1, by have := z.2; omega⟩) (fun _ _ z => z) (Nat.le_refl _) (Nat.le_refl _))
              have hR7 : room M7 1 8 := (hR.le (n' := 0 + 1) (u' := 0 + 8) (by omega) (by omega)).fr F17
              have hn7 := F17.n
              have r := ih (blS (xbN A) L p') f' (bkAdd B z.1 y.1) M7 (by omega) (by omega) (by omega) h7 hR7
              have hF : boF (xbN A) L J (n + 1) B p = boF (xbN A) L J n (bkAdd B z.1 y.1) (blS (xbN A) L p') := by
                rw [boF, if_pos hp, show boE (xbN A) L J B p = .inl p' by simp only [boE, boV, hQ, nuR, hV, poR, sgR, hE], show boV (xbN A) L J B p = .inl y by simp only [boV, hQ, nuR, hV], hJ2]
                rfl
              rw [hF]
              generalize boF (xbN A) L J n (bkAdd B z.1 y.1) (blS (xbN A) L p') = R at *
              cases R with
              | inl B' =>
                obtain ⟨M8, p8, e8, f8, h8⟩ := r
                exact ⟨M8, p8, e8, F17.t0 f8, h8⟩
              | inr e => exact (bdC.pre r F17 (fun a k z => by unfold sBo at z; have := kA.2.1.2.1; omega) (fun _ _ z => False.elim z)).le (by omega) (by omega)
        · have hQ : boQ (xbN A) L J B p = .inr (2, blS (xbN A) L p) := by simp only [boQ, hJ2, c, if_false]
          rw [if_neg c]
          have q9 := c_bad (α := Nat) (k := 2) (N := N) (M1 := M2) (o := o) (f := 93) (by omega) (h109 M2 hk2 93 (by omega) (by omega) (by omega)).1 (by omega) k93 hR2
          refine hbd _ _ ?_ ((bdC.pre q9 f2 (fun a k z => by have := z.1; omega) (fun _ _ z => False.elim z)).le (by omega) (by omega))
          simp only [boE, boV, hQ, nuR, poR, sgR]
    · have hF : boF (xbN A) L J (n + 1) B p = .inl B := by rw [boF, if_neg hp]
      rw [hF]
      exact fin p f B M1 hp (by omega) h
end READ
