/-! A WORK: one act, on both sides -/
def acS (T : dvT) (lw : (Nat → Int32) → Int32) (k a c : Nat) (r : Nat → Int32) : Nat → Int32 := if k = 0 then telS T lw c a r else if k = 1 then grvS a (Int32.ofNat c) r else if k = 2 then cheS a r else if k = 3 then pouS (Int32.ofNat a) r else dyeS T r
def acF (k a c : Nat) (r : Nat → Int32) : Int32 := if k = 0 then telF a r else if k = 1 then grvF a (Int32.ofNat c) r else if k = 2 then cheF a r else if k = 3 then pouF (Int32.ofNat a) r else dyeF r
def acV (T : dvT) (k a c : Nat) : Prop := (k = 0 ∧ a < tP T ∧ c < tJ T) ∨ (k = 1 ∧ a < tP T ∧ c < 1000) ∨ (k = 2 ∧ a < tP T) ∨ (k = 3 ∧ a < 1000) ∨ k = 4
theorem acF_01 (k a c : Nat) (r : Nat → Int32) : acF k a c r = 0 ∨ acF k a c r = 1 := by
  unfold acF
  split
  · unfold telF; split
    · exact Or.inl rfl
    · exact Or.inr rfl
  split
  · unfold grvF; split
    · exact Or.inr rfl
    · exact Or.inl rfl
  split
  · unfold cheF; split
    · exact Or.inl rfl
    · exact Or.inr rfl
  split
  · unfold pouF; split
    · exact Or.inr rfl
    · exact Or.inl rfl
  · unfold dyeF; split
    · exact Or.inr rfl
    · exact Or.inl rfl
theorem xbl_f {ρ : Type} {v : Int32} {X : Option ρ} (h : v = 0 ∨ v = 1) : xbl v X = X := if_pos h
theorem telS_78 {T : dvT} {lw : (Nat → Int32) → Int32} {j p : Nat} {r : Nat → Int32} (hj : j < 6) (hp : p < 7) : telS T lw j p r 78 = r 78 := by
  unfold telS
  split
  · rfl
  · rw [rset_ne (by omega), rset_ne (by omega), rset_ne (by omega), rset_ne (by omega), rset_ne (by omega)]
theorem acS_ok {T : dvT} {lw : (Nat → Int32) → Int32} {k a c : Nat} {r : Nat → Int32} (hO : tOK T) (hv : acV T k a c) (h : rowD T r) : rowD T (acS T lw k a c r) := by
  have o1 := hO.1
  have o2 := hO.2.1
  obtain ⟨h1, d, hd, h78⟩ := h
  unfold acS
  rcases hv with ⟨rfl, ha, hc⟩ | ⟨rfl, ha, hc⟩ | ⟨rfl, ha⟩ | ⟨rfl, ha⟩ | rfl
  · rw [if_pos rfl]
    exact ⟨rowOK_tel hO hc ha h1, d, hd, (telS_78 (by omega) (by omega)).trans h78⟩
  · rw [if_neg (by omega), if_pos rfl]
    refine ⟨rowOK_grv hO ha h1, d, hd, ?_⟩
    unfold grvS
    split
    · rw [rset_ne (by omega)]; exact h78
    · exact h78
  · rw [if_neg (by omega), if_neg (by omega), if_pos rfl]
    unfold cheS
    split
    · exact ⟨h1, d, hd, h78⟩
    · refine ⟨⟨fun p hp => ?_, ?_, ?_⟩, d, hd, ?_⟩
      · rw [rset_ne (by omega), rset_ne (by omega)]; exact h1.1 p hp
      · rw [rset_ne (by omega)]; exact h1.2.1
      · rw [rset_ne (by omega)]; exact h1.2.2
      · rw [rset_ne (by omega)]; exact h78
  · rw [if_neg (by omega), if_neg (by omega), if_neg (by omega), if_pos rfl]
    unfold pouS
    split
    · next hle =>
      have e0 : (0 : Int32).toInt = 0 := rfl
      have e9 : (999 : Int32).toInt = 999 := rfl
      have ia := i_toInt (show a < 2147483648 by omega)
      have l1 := Int32.le_iff_toInt_le.mp h1.2.1
      have l2 := Int32.le_iff_toInt_le.mp h1.2.2
      have l3 := Int32.le_iff_toInt_le.mp hle
      have es : (r 77 - Int32.ofNat a).toInt = (r 77).toInt - a := by
        rw [Int32.toInt_sub, ia, Int.bmod_eq_of_le (by omega) (by omega)]
      refine ⟨⟨fun p hp => ?_, ?_, ?_⟩, d, hd, ?_⟩
      · rw [rset_ne (by omega), rset_ne (by omega)]; exact h1.1 p hp
      · rw [rset_eq]; exact Int32.le_iff_toInt_le.mpr (by rw [es]; omega)
      · rw [rset_eq]; exact Int32.le_iff_toInt_le.mpr (by rw [es]; omega)
      · rw [rset_ne (by omega)]; exact h78
    · exact ⟨h1, d, hd, h78⟩
  · rw [if_neg (by omega), if_neg (by omega), if_neg (by omega), if_neg (by omega)]
    unfold dyeS
    by_cases hl : r 78 < 400
    · rw [if_pos hl]
      have hl' : d < 400 := by
        rw [h78, show (400 : Int32) = Int32.ofNat 400 from rfl, i_lt (by omega) (by omega)] at hl
        exact hl
      refine ⟨rowOK_day hO h1, d + 1, by omega, ?_⟩
      have e2 : ∀ n, n ≤ tP T → itr (dayP T) r n 78 = r 78 := by
        intro n
        induction n with
        | zero => intro _; rfl
        | succ n ih =>
          intro hn
          rw [show itr (dayP T) r (n + 1) = dayP T n (itr (dayP T) r n) from rfl, dayP_o (by omega) (by omega) (by omega) (by omega)]
          exact ih (by omega)
      unfold dayS
      rw [rset_eq, e2 _ (Nat.le_refl _), h78, i_succ]
    · rw [if_neg hl]; exact ⟨h1, d, hd, h78⟩
/-- an act at o -/
def aO (M : dwSt) (o k a c : Nat) : Prop := dwK M o = (0, 20 + k) ∧ (k = 0 → dwI M o 116 = Int32.ofNat c ∧ dwI M o 117 = Int32.ofNat a) ∧ (k = 1 → dwI M o 118 = Int32.ofNat a ∧ dwI M o 119 = Int32.ofNat c) ∧ (k = 2 → dwI M o 120 = Int32.ofNat a) ∧ (k = 3 → dwI M o 121 = Int32.ofNat a)
/-- a row of the twin's -/
def tRw (M : dwSt) (x k a c : Nat) : Prop := dwI M x 0 = Int32.ofNat k ∧ (k < 4 → dwI M x 1 = Int32.ofNat a) ∧ (k < 2 → dwI M x 2 = Int32.ofNat c)
section ACT
variable {b : Nat} {w : Nat → Nat} {M : dwSt} {T : dvT} {lw : (Nat → Int32) → Int32} {o k a c : Nat} {r : Nat → Int32}
theorem c_act (h : cEnv b w M T lw) (hO : tOK T) (hS : cSea b M (b + 23) (tP T) r) (hr : rowD T r) (ho : aO M o k a c) (hv : acV T k a c) : ∃ M', D_Act_isDone M o (b + 23) = some (acF k a c r, M') ∧ fr (sSG b (b + 23)) nz 0 0 M M' ∧ cSea b M' (b + 23) (tP T) (acS T lw k a c r) := by
  obtain ⟨k0, p0, p1, p2, p3⟩ := ho
  have ks := hS.1.2.1
  have o1 := hO.1
  have hf := acF_01 k a c r
  have w2 : ∀ {M' : dwSt}, fr (sSn (b + 23)) nz 0 0 M M' → fr (sSG b (b + 23)) nz 0 0 M M' := fun f => f.mono (fun x k z => Or.inl z) (fun _ _ z => z) (Nat.le_refl _) (Nat.le_refl _)
  obtain ⟨h1, d, hd, h78⟩ := id hr
  have e : ∀ ci ci' : Nat, ((0, ci) : Nat × Nat) = (0, ci') → ci = ci' := fun _ _ z => congrArg Prod.snd z
  unfold D_Act_isDone xsw
  rw [k0]
  unfold acF at hf
  unfold acF acS
  rcases hv with ⟨rfl, ha, hc⟩ | ⟨rfl, ha, hc⟩ | ⟨rfl, ha⟩ | ⟨rfl, ha⟩ | rfl
  · obtain ⟨q1, q2⟩ := p0 rfl
    rw [if_pos rfl] at hf
    rw [if_pos rfl, if_pos rfl, if_pos rfl]
    obtain ⟨M', e1, f1, s1⟩ := c_tell2 h hS sep_now (by omega) hc ha (h1.1 a ha).1
    refine ⟨M', ?_, f1, s1⟩
    unfold m_X25_isDone
    rw [xgI_u (by rw [k0]; rfl), q1, xgI_u (by rw [k0]; rfl), q2, xrk_u ks, e1, xmb_v, xbl_f hf]
  · obtain ⟨q1, q2⟩ := p1 rfl
    rw [if_neg (by omega), if_pos rfl] at hf
    rw [if_neg (fun z => by have := e _ _ z; omega), if_pos rfl, if_neg (by omega), if_pos rfl, if_neg (by omega), if_pos rfl]
    obtain ⟨M', e1, f1, s1⟩ := c_grv2 (n := Int32.ofNat c) hS o1 (show a < 7 by omega)
    refine ⟨M', ?_, w2 f1, s1⟩
    unfold m_X26_isDone
    rw [xgI_u (by rw [k0]; rfl), q1, xgI_u (by rw [k0]; rfl), q2, xrk_u ks, e1, xmb_v, xbl_f hf]
  · have q1 := p2 rfl
    rw [if_neg (by omega), if_neg (by omega), if_pos rfl] at hf
    rw [if_neg (fun z => by have := e _ _ z; omega), if_neg (fun z => by have := e _ _ z; omega), if_pos rfl, if_neg (by omega), if_neg (by omega), if_pos rfl, if_neg (by omega), if_neg (by omega), if_pos rfl]
    obtain ⟨M', e1, f1, s1⟩ := c_che2 hS o1 (show a < 7 by omega)
    refine ⟨M', ?_, w2 f1, s1⟩
    unfold m_X27_isDone
    rw [xgI_u (by rw [k0]; rfl), q1, xrk_u ks, e1, xmb_v, xbl_f hf]
  · have q1 := p3 rfl
    rw [if_neg (by omega), if_neg (by omega), if_neg (by omega), if_pos rfl] at hf
    rw [if_neg (fun z => by have := e _ _ z; omega), if_neg (fun z => by have := e _ _ z; omega), if_neg (fun z => by have := e _ _ z; omega), if_pos rfl, if_neg (by omega), if_neg (by omega), if_neg (by omega), if_pos rfl, if_neg (by omega), if_neg (by omega), if_neg (by omega), if_pos rfl]
    obtain ⟨M', e1, f1, s1⟩ := c_pou2 (n := Int32.ofNat a) hS o1
    refine ⟨M', ?_, w2 f1, s1⟩
    unfold m_X28_isDone
    rw [xgI_u (by rw [k0]; rfl), q1, xrk_u ks, e1, xmb_v, xbl_f hf]
  · rw [if_neg (by omega), if_neg (by omega), if_neg (by omega), if_neg (by omega)] at hf
    rw [if_neg (fun z => by have := e _ _ z; omega), if_neg (fun z => by have := e _ _ z; omega), if_neg (fun z => by have := e _ _ z; omega), if_neg (fun z => by have := e _ _ z; omega), if_pos rfl, if_neg (by omega), if_neg (by omega), if_neg (by omega), if_neg (by omega), if_neg (by omega), if_neg (by omega), if_neg (by omega), if_neg (by omega)]
    obtain ⟨M', e1, f1, s1⟩ := c_day2 h.1 h.2.1 hS sep_now hd h78
    refine ⟨M', ?_, w2 f1, s1⟩
    unfold m_X29_isDone
    rw [xrk_u ks, e1, xmb_v, xbl_f hf]
theorem t_does {x : Nat} (h : tEnv b M T lw) (hO : tOK T) (kx : dwK M x = (1, 4)) (hx : tRw M x k a c) (hv : acV T k a c) : ∃ M', m_X10_does M (b + 54) (b + 534) x = some (acF k a c (dwI M (b + 534)), M') ∧ fr (sRK b (b + 534)) nz 0 0 M M' ∧ dwI M' (b + 534) = acS T lw k a c (dwI M (b + 534)) := by
  obtain ⟨p0, p1, p2⟩ := hx
  have sh := h.1
  have o1 := hO.1
  have hka := kd534 sh
  have hf := acF_01 k a c (dwI M (b + 534))
  have ra : rowA b (b + 534) := Or.inl rfl
  have rd : ∀ (i : Nat), i < 4 → ∀ {σ : Type} (K : Int32 → Option σ), xaI M x (Int32.ofNat i) K = K (dwI M x i) := fun i hi σ K => by
    rw [xaI_u (by rw [kx]) (by rw [kx]; exact inb_n hi (by omega)), i_nat (by omega)]
  have rd0 : ∀ {σ : Type} (K : Int32 → Option σ), xaI M x 0 K = K (dwI M x 0) := fun K => rd 0 (by omega) K
  have rd1 : ∀ {σ : Type} (K : Int32 → Option σ), xaI M x 1 K = K (dwI M x 1) := fun K => rd 1 (by omega) K
  have rd2 : ∀ {σ : Type} (K : Int32 → Option σ), xaI M x 2 K = K (dwI M x 2) := fun K => rd 2 (by omega) K
  have rr : ∀ i, i < 79 → ∀ {σ : Type} (K : Int32 → Option σ), xaI M (b + 534) (Int32.ofNat i) K = K (dwI M (b + 534) i) := fun i hi σ K => by
    rw [xaI_u (by rw [hka]) (by rw [hka]; exact inb_n hi (by omega)), i_nat (by omega)]
  have rw' : ∀ i, i < 79 → ∀ (v : Int32) {σ : Type} (K : dwSt → Option σ), xsI M (b + 534) (Int32.ofNat i) v K = K (dwPI M (b + 534) i v) := fun i hi v σ K => by
    rw [xsI_u (by rw [hka]) (by rw [hka]; exact inb_n hi (by omega)), i_nat (by omega)]
  have w2 : ∀ {M' : dwSt}, fr (sRow (b + 534)) nz 0 0 M M' → fr (sRK b (b + 534)) nz 0 0 M M' := fun f => f.mono (fun x k z => Or.inl z) (fun _ _ z => z) (Nat.le_refl _) (Nat.le_refl _)
  have fw : ∀ i v, fr (sRow (b + 534)) nz 0 0 M (dwPI M (b + 534) i v) := fun i v => (fr.refl M).pI _ (Or.inl rfl)
  have ne : ∀ i j : Nat, i < 100 → j < 100 → ¬ i = j → ¬ Int32.ofNat i = Int32.ofNat j := fun i j hi hj hn z => hn ((i_inj (by omega) (by omega)).mp z)
  have hrow : ∀ i v, dwI (dwPI M (b + 534) i v) (b + 534) = rset (dwI M (b + 534)) i v := fun i v => di_row
  unfold m_X10_does
  rw [rd1, rd0, p0]
  unfold acF at hf
  unfold acF acS
  rcases hv with ⟨rfl, ha, hc⟩ | ⟨rfl, ha, hc⟩ | ⟨rfl, ha⟩ | ⟨rfl, ha⟩ | rfl
  · have q1 := p1 (by omega)
    have q2 := p2 (by omega)
    rw [if_pos rfl] at hf
    obtain ⟨M', e1, f1, s1⟩ := t_tells h ra hc ha
    rw [if_pos (show Int32.ofNat 0 = 0 from rfl), rd2, q2, q1, xrk_u (kd54 sh), e1, xmb_v, xbl_f hf]
    exact ⟨M', rfl, f1, s1⟩
  · have q1 := p1 (by omega)
    have q2 := p2 (by omega)
    rw [if_neg (by omega), if_pos rfl] at hf
    obtain ⟨M', e1, f1, s1⟩ := t_grieves (n := Int32.ofNat c) hka (show a < 7 by omega)
    rw [if_neg (show ¬ Int32.ofNat 1 = 0 by decide), if_pos (show Int32.ofNat 1 = 1 from rfl), rd2, q2, q1, e1, xmb_v, xbl_f hf]
    exact ⟨M', rfl, w2 f1, s1⟩
  · have q1 := p1 (by omega)
    rw [if_neg (show ¬ Int32.ofNat 2 = 0 by decide), if_neg (show ¬ Int32.ofNat 2 = 1 by decide), if_pos (show Int32.ofNat 2 = 2 from rfl), q1, show (0 : Int32) + Int32.ofNat a = Int32.ofNat a by rw [show (0 : Int32) = Int32.ofNat 0 from rfl, i_add, Nat.zero_add], rr a (by omega)]
    show ∃ M', _ = some (cheF a (dwI M (b + 534)), M') ∧ fr (sRK b (b + 534)) nz 0 0 M M' ∧ dwI M' (b + 534) = cheS a (dwI M (b + 534))
    unfold cheF cheS
    by_cases z : dwI M (b + 534) a = 0
    · rw [if_pos z, if_pos z, if_pos z]
      exact ⟨M, rfl, fr.refl M, rfl⟩
    · rw [if_neg z, if_neg z, if_neg z, rw' a (by omega)]
      exact ⟨_, rfl, w2 (fw _ _), hrow _ _⟩
  · have q1 := p1 (by omega)
    rw [if_neg (show ¬ Int32.ofNat 3 = 0 by decide), if_neg (show ¬ Int32.ofNat 3 = 1 by decide), if_neg (show ¬ Int32.ofNat 3 = 2 by decide), if_pos (show Int32.ofNat 3 = 3 from rfl), q1, show (77 : Int32) = Int32.ofNat 77 from rfl, rr 77 (by omega)]
    show ∃ M', _ = some (pouF (Int32.ofNat a) (dwI M (b + 534)), M') ∧ fr (sRK b (b + 534)) nz 0 0 M M' ∧ dwI M' (b + 534) = pouS (Int32.ofNat a) (dwI M (b + 534))
    unfold pouF pouS
    by_cases z : Int32.ofNat a ≤ dwI M (b + 534) 77
    · rw [if_pos z, if_pos z, if_pos z, rr 77 (by omega), rw' 77 (by omega)]
      exact ⟨_, rfl, w2 (fw _ _), hrow _ _⟩
    · rw [if_neg z, if_neg z, if_neg z]
      exact ⟨M, rfl, fr.refl M, rfl⟩
  · rw [if_neg (show ¬ Int32.ofNat 4 = 0 by decide), if_neg (show ¬ Int32.ofNat 4 = 1 by decide), if_neg (show ¬ Int32.ofNat 4 = 2 by decide), if_neg (show ¬ Int32.ofNat 4 = 3 by decide), show (78 : Int32) = Int32.ofNat 78 from rfl, rr 78 (by omega)]
    show ∃ M', _ = some (dyeF (dwI M (b + 534)), M') ∧ fr (sRK b (b + 534)) nz 0 0 M M' ∧ dwI M' (b + 534) = dyeS T (dwI M (b + 534))
    unfold dyeF dyeS
    by_cases z : dwI M (b + 534) 78 < 400
    · obtain ⟨M', e1, f1, s1⟩ := t_dayEnds sh h.2.1 ra
      rw [if_pos z, if_pos z, if_pos z, xrk_u (kd54 sh), e1, xmb_v]
      exact ⟨M', rfl, w2 f1, s1⟩
    · rw [if_neg z, if_neg z, if_neg z]
      exact ⟨M, rfl, fr.refl M, rfl⟩
end ACT
