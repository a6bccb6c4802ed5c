/-! a list grows -/
def dwCpR (M : dwSt) (a c n : Nat) : dwSt := (M.1, M.2.1, M.2.2.1, va_up M.2.2.2.1 c (va_cpy (dwR M a) (dwR M c) 0 0 n), M.2.2.2.2)
theorem dk_CpR (M : dwSt) (a c n : Nat) : dwK (dwCpR M a c n) = dwK M := (fun _ => rfl : True → _) trivial
theorem di_CpR (M : dwSt) (a c n : Nat) : dwI (dwCpR M a c n) = dwI M := (fun _ => rfl : True → _) trivial
theorem dn_CpR (M : dwSt) (a c n : Nat) : dwN (dwCpR M a c n) = dwN M := (fun _ => rfl : True → _) trivial
theorem dr_CpR (M : dwSt) (a c n x k : Nat) : dwR (dwCpR M a c n) x k = if x = c then (if k < n then dwR M a k else dwR M c k) else dwR M x k := by
  show va_up (dwR M) c (va_cpy (dwR M a) (dwR M c) 0 0 n) x k = _
  unfold va_up va_cpy
  by_cases e : x = c
  · rw [if_pos e, if_pos e]
    by_cases h : k < n
    · rw [if_pos h, if_pos (by omega), Nat.zero_add, Nat.sub_zero]
    · rw [if_neg h, if_neg (by omega)]
  · rw [if_neg e, if_neg e]
theorem fr.cpR {S Z : Nat → Nat → Prop} {cn cu : Nat} {M M' : dwSt} (h : fr S Z cn cu M M') {a c n : Nat} (hs : (∀ k, Z c k) ∨ dwN M ≤ c) : fr S Z cn cu M (dwCpR M' a c n) :=
  ⟨h.1, h.2.1, h.n, h.nn, h.u, fun _ ha => h.k ha, fun x j hb hj => ⟨h.i hb hj, h.l hb hj⟩, fun x j hb hj => by
    rw [dr_CpR]
    by_cases e : x = c
    · exfalso
      subst e
      rcases hs with hs | hs
      · exact hj (hs j)
      · omega
    · rw [if_neg e]; exact h.r hb hj⟩
abbrev obL : List Nat := [6, 7, 20, 21, 22, 23, 24, 25]
theorem xcpyR_u {ρ : Type} {M : dwSt} {a c n : Nat} {K : dwSt → Option ρ} (h1 : (dwK M a).1 = 6) (h2 : (dwK M c).1 = 6) (h3 : n ≤ (dwK M a).2) (h4 : n ≤ (dwK M c).2) (hn : n < 2147483648) (hb : ∀ i, i < n → dwEm M obL (dwR M a i) = true) : xcpyR M obL a 0 c 0 (Int32.ofNat n) K = K (dwCpR M a c n) := by
  unfold xcpyR
  rw [if_pos ⟨⟨h1, h2⟩, ⟨by decide, by decide, by rw [i_toInt hn]; omega⟩, by rw [i_toInt hn, show (0 : Int32).toInt = 0 from rfl]; omega, by rw [i_toInt hn, show (0 : Int32).toInt = 0 from rfl]; omega, fun i hi => by
    rw [i_nat hn] at hi
    rw [show (0 : Int32).toNatClampNeg = 0 from rfl, Nat.zero_add]; exact hb i hi⟩]
  rw [i_nat hn]
  rfl
theorem xsR_u {ρ : Type} {M : dwSt} {a n v ci : Nat} {K : dwSt → Option ρ} (h1 : (dwK M a).1 = 6) (h2 : n < (dwK M a).2) (hn : n < 2147483648) (h3 : dwK M v = (0, ci)) (h4 : obL.contains ci = true) : xsR M 6 obL a (Int32.ofNat n) v K = K (dwPR M a n (some v)) := by
  unfold xsR
  rw [if_pos ⟨h1, ⟨by rw [i_toInt hn]; omega, by rw [i_toInt hn]; omega⟩, by rw [h3], by rw [h3]; exact h4⟩, i_nat hn]
/-- a list at l: n of them, in the array e -/
def rwL (M : dwSt) (l n e cap : Nat) (g : Nat → Nat) : Prop := dwK M l = (0, 26) ∧ dwI M l 126 = Int32.ofNat n ∧ dwR M l 125 = some e ∧ dwK M e = (6, cap) ∧ n ≤ cap ∧ (0 < cap ∧ cap < 1000) ∧ (l < dwN M ∧ e < dwN M) ∧ ∀ p, p < n → dwR M e p = some (g p) ∧ g p < dwN M ∧ ∃ ci, dwK M (g p) = (0, ci) ∧ obL.contains ci = true
theorem nl_cap : ∀ n, n < 100 → 1 ≤ n → m_J11_newLength (Int32.ofNat n) ((Int32.ofNat n + 1) - Int32.ofNat n) (Int32.ofNat n >>> ((1 : Int32) &&& 31)) = some (Int32.ofNat (n + max 1 (n / 2))) := by decide +kernel
section LIST
variable {b : Nat} {M : dwSt} {ρ : Type}
theorem c_grow {l n e : Nat} {g : Nat → Nat} (h : rwL M l n e n g) (hn : n < 100) (hR : room M 1 150) : ∃ M2, m_J2_grow M l = some (dwN M, M2) ∧ fr nz (fun a k => a = l ∧ k = 125) 1 150 M M2 ∧ rwL M2 l n (dwN M) (n + max 1 (n / 2)) g := by
  obtain ⟨k, i126, r125, ke, hle, hcap, hN, hg⟩ := h
  have h1 : 1 ≤ n := hcap.1
  have hm : max 1 (n / 2) ≤ 50 := by omega
  have hm0 : 1 ≤ max 1 (n / 2) := by omega
  have g26 : ∀ f, 124 ≤ f → f ≤ 126 → dwHas (dwK M l) f = true ∧ dwHasW (dwK M l) f = true := fun f q1 q2 => by rw [k]; exact ⟨hs26 q1 q2, hw26 q1 q2⟩
  have l1 : ∀ {σ : Type} (K : Int32 → Option σ), xlen M e K = K (Int32.ofNat n) := fun K => by rw [xlen_u (by rw [ke]; show 1 ≤ 6; omega) (by rw [ke]; show 6 ≤ 6; omega), ke]
  have nl := nl_cap n hn h1
  generalize hc : n + max 1 (n / 2) = c at *
  have f2 : fr nz nz 1 c M (dwMk M (6, c) c) := ((fr.refl M).mk (6, c) c).mono (fun _ _ z => z) (fun _ _ z => z) (by omega) (by omega)
  have ke2 : dwK (dwMk M (6, c) c) e = (6, n) := (f2.k hN.2).trans ke
  have kn2 : dwK (dwMk M (6, c) c) (dwN M) = (6, c) := by rw [dk_Mk, if_pos rfl]
  have kl2 : dwK (dwMk M (6, c) c) l = (0, 26) := (f2.k hN.1).trans k
  have l2 : ∀ {σ : Type} (K : Int32 → Option σ), xlen (dwMk M (6, c) c) e K = K (Int32.ofNat n) := fun K => by rw [xlen_u (by rw [ke2]; show 1 ≤ 6; omega) (by rw [ke2]; show 6 ≤ 6; omega), ke2]
  have re2 : ∀ p, p < n → dwR (dwMk M (6, c) c) e p = some (g p) := fun p hp => (f2.r hN.2 (fun z => z)).trans (hg p hp).1
  have e3 : m_J13_copyOf_3 M e (Int32.ofNat c) (dwX M 2) = some (dwN M, dwCpR (dwMk M (6, c) c) e (dwN M) n) := by
    unfold m_J13_copyOf_3
    rw [if_pos rfl, xnewA_u (by omega) (hR.le (by omega) (by omega)), l2, if_neg (show ¬ Int32.ofNat c < Int32.ofNat n by rw [i_lt (by omega) (by omega)]; omega)]
    show xcpyR _ obL e 0 (dwN M) 0 (Int32.ofNat n) _ = _
    rw [xcpyR_u (by rw [ke2]) (by rw [kn2]) (by rw [ke2]; exact Nat.le_refl _) (by rw [kn2]; show n ≤ c; omega) (by omega) fun i hi => ?_]
    rw [re2 i hi]
    obtain ⟨q1, q2, ci, q3, q4⟩ := hg i hi
    show ((dwK (dwMk M (6, c) c) (g i)).1 == 0 && obL.contains (dwK (dwMk M (6, c) c) (g i)).2) = true
    rw [f2.k q2, q3, q4]; rfl
  have f4 : fr nz (fun a k => a = l ∧ k = 125) 1 150 M (dwPR (dwCpR (dwMk M (6, c) c) e (dwN M) n) l 125 (some (dwN M))) := ((f2.mono (S' := nz) (Z' := fun a k => a = l ∧ k = 125) (fun _ _ z => z) (fun _ _ z => False.elim z) (Nat.le_refl _) (show c ≤ 150 by omega)).cpR (a := e) (c := dwN M) (n := n) (Or.inr (Nat.le_refl _))).pR (a := l) (k := 125) (some (dwN M)) (Or.inl ⟨rfl, rfl⟩)
  refine ⟨dwPR (dwCpR (dwMk M (6, c) c) e (dwN M) n) l 125 (some (dwN M)), ?_, f4, ?_, ?_, ?_, ?_, by omega, by omega, ?_, fun p hp => ?_⟩
  · unfold m_J2_grow m_J2_grow_2
    rw [xgI_u (g26 126 (by omega) (by omega)).1, xrk_u k, i126, xgR_v (g26 125 (by omega) (by omega)).1 r125, l1, if_pos (show (0 : Int32) < Int32.ofNat n by rw [show (0 : Int32) = Int32.ofNat 0 from rfl, i_lt (by omega) (by omega)]; omega), nl, xob_v, xgR_v (g26 125 (by omega) (by omega)).1 r125]
    unfold m_J13_copyOf_2 xqar
    rw [if_pos (show (dwK M e).1 = 6 by rw [ke]), e3, xmb_v, xmb_v, xpR_u (show dwHasW (dwK (dwCpR (dwMk M (6, c) c) e (dwN M) n) l) 125 = true by rw [dk_CpR, kl2]; rfl)]
    rfl
  · rw [dk_PR, dk_CpR]; exact kl2
  · rw [di_PR, di_CpR]; exact (f2.i hN.1 (fun z => z)).trans i126
  · rw [dr_PR, if_pos ⟨rfl, rfl⟩]
  · rw [dk_PR, dk_CpR]; exact kn2
  · rw [dn_PR, dn_CpR, dn_Mk]; omega
  · obtain ⟨q1, q2, ci, q3, q4⟩ := hg p hp
    refine ⟨?_, by rw [dn_PR, dn_CpR, dn_Mk]; omega, ci, ?_, q4⟩
    · rw [dr_PR, if_neg (by omega), dr_CpR, if_pos rfl, if_pos hp]; exact re2 p hp
    · rw [dk_PR, dk_CpR]; exact (f2.k q2).trans q3
theorem c_add {l n e cap q cq : Nat} {g : Nat → Nat} (h : rwL M l n e cap g) (hq : dwK M q = (0, cq)) (hc : obL.contains cq = true) (hqN : q < dwN M) (hn : n < 100) (hR : room M 1 150) : ∃ M2 e' cap', m_J2_add M l q = some (1, M2) ∧ fr (fun a k => a = l ∧ (k = 124 ∨ k = 126)) (fun a k => (a = l ∧ k = 125) ∨ a = e) 1 150 M M2 ∧ rwL M2 l (n + 1) e' cap' (fun p => if p = n then q else g p) ∧ (e' = e ∨ e' = dwN M) := by
  have h0 := h
  obtain ⟨k, i126, r125, ke, hle, hcap, hN, hg⟩ := h
  have f1 : fr (fun a k => a = l ∧ (k = 124 ∨ k = 126)) (fun a k => (a = l ∧ k = 125) ∨ a = e) 0 0 M (dwPI M l 124 (dwI M l 124 + 1)) := (fr.refl M).pI _ (Or.inl ⟨rfl, Or.inl rfl⟩)
  have h1 : rwL (dwPI M l 124 (dwI M l 124 + 1)) l n e cap g := ⟨k, by rw [di_ne (by omega)]; exact i126, r125, ke, hle, hcap, hN, hg⟩
  have hq1 : dwK (dwPI M l 124 (dwI M l 124 + 1)) q = (0, cq) := hq
  have hR1 : room (dwPI M l 124 (dwI M l 124 + 1)) 1 150 := hR
  have n1 : dwN (dwPI M l 124 (dwI M l 124 + 1)) = dwN M := rfl
  have e0 : m_J2_add M l q = xgR (dwPI M l 124 (dwI M l 124 + 1)) 125 l (fun v3 => xgI (dwPI M l 124 (dwI M l 124 + 1)) 126 l (fun v4 => xrk (dwPI M l 124 (dwI M l 124 + 1)) l 26 (xmb (m_J2_add_2 (dwPI M l 124 (dwI M l 124 + 1)) l q v3 v4) (fun _ M6 => some (1, M6))))) := by
    unfold m_J2_add
    rw [xgI_u (by rw [k]; rfl), xpI_u (by rw [k]; rfl)]
  rw [e0]
  generalize dwPI M l 124 (dwI M l 124 + 1) = M1 at *
  have h1' := h1
  obtain ⟨k', i126', r125', ke', -, -, hN', hg'⟩ := h1
  rw [xgR_v (by rw [k']; rfl) r125', xgI_u (by rw [k']; rfl), i126', xrk_u k']
  have l1 : ∀ {σ : Type} (K : Int32 → Option σ), xlen M1 e K = K (Int32.ofNat cap) := fun K => by rw [xlen_u (by rw [ke']; show 1 ≤ 6; omega) (by rw [ke']; show 6 ≤ 6; omega), ke']
  -- the last steps
  have fin : ∀ (M3 : dwSt) e' cap', rwL M3 l n e' cap' g → n < cap' → dwK M3 q = (0, cq) → q < dwN M3 → xsR M3 6 obL e' (Int32.ofNat n) q (fun M4 => xpI M4 126 l (Int32.ofNat n + 1) (fun M5 => some ((), M5))) = some ((), dwPI (dwPR M3 e' n (some q)) l 126 (Int32.ofNat (n + 1))) ∧ rwL (dwPI (dwPR M3 e' n (some q)) l 126 (Int32.ofNat (n + 1))) l (n + 1) e' cap' (fun p => if p = n then q else g p) := by
    intro M3 e' cap' ⟨q1, q2, q3, q4, q5, q6, q7, q8⟩ hlt hq3 hqN3
    have hne : e' ≠ l := fun z => by rw [z, q1] at q4; exact absurd (congrArg Prod.fst q4) (show ¬ (0 : Nat) = 6 by omega)
    refine ⟨?_, q1, di_eq, ?_, q4, hlt, q6, q7, fun p hp => ?_⟩
    · rw [xsR_u (by rw [q4]) (by rw [q4]; exact hlt) (by omega) hq3 hc, xpI_u (by rw [dk_PR, q1]; rfl), i_succ]
    · rw [dr_PI, dr_PR, if_neg (fun z => hne z.1.symm)]; exact q3
    · dsimp only
      by_cases ep : p = n
      · rw [if_pos ep, ep]
        exact ⟨by rw [dr_PI, dr_PR, if_pos ⟨rfl, rfl⟩], hqN3, cq, hq3, hc⟩
      · rw [if_neg ep]
        obtain ⟨z1, z2, z3⟩ := q8 p (by omega)
        exact ⟨by rw [dr_PI, dr_PR, if_neg (fun z => ep z.2)]; exact z1, z2, z3⟩
  unfold m_J2_add_2
  rw [l1, jn_u]
  by_cases c : n = cap
  · subst c
    obtain ⟨M2, e2, f2, h2⟩ := c_grow h1' hn hR1
    have hq2 : dwK M2 q = (0, cq) := (f2.k (by omega)).trans hq1
    have hn2 := f2.n
    obtain ⟨z1, z2⟩ := fin M2 _ _ h2 (by omega) hq2 (by omega)
    rw [if_pos rfl, xrk_u k', e2, xmb_v]
    dsimp only
    rw [z1, xmb_v]
    refine ⟨_, _, _, rfl, ?_, z2, Or.inr n1⟩
    refine (((f1.trans (f2.mono (fun _ _ z => False.elim z) (fun a k z => Or.inl z) (Nat.le_refl _) (Nat.le_refl _))).pR (a := dwN M1) (k := n) (some q) (Or.inr (Nat.le_of_eq n1.symm))).pI (a := l) (k := 126) _ (Or.inl ⟨rfl, Or.inr rfl⟩)).mono (fun _ _ z => z) (fun _ _ z => z) (by omega) (by omega)
  · obtain ⟨z1, z2⟩ := fin M1 e cap h1' (by omega) hq1 (by omega)
    rw [if_neg (by rw [i_inj (by omega) (by omega)]; exact c)]
    dsimp only
    rw [z1, xmb_v]
    refine ⟨_, _, _, rfl, ?_, z2, Or.inl rfl⟩
    exact ((f1.pR (a := e) (k := n) (some q) (Or.inl (Or.inr rfl))).pI (a := l) (k := 126) _ (Or.inl ⟨rfl, Or.inr rfl⟩)).mono (fun _ _ z => z) (fun _ _ z => z) (by omega) (by omega)
/-- a new list -/
theorem c_mkL {c : Nat} (hc : 0 < c ∧ c < 100) (hR : room M 2 (3 + c)) : ∃ M2, m_J2_init (dwMk M (0, 26) 3) (dwN M) (Int32.ofNat c) = some ((), M2) ∧ fr nz nz 2 (3 + c) M M2 ∧ rwL M2 (dwN M) 0 (dwN M + 1) c (fun _ => 0) ∧ dwN M2 = dwN M + 2 := by
  have k1 : dwK (dwMk M (0, 26) 3) (dwN M) = (0, 26) := by rw [dk_Mk, if_pos rfl]
  have f1 : fr nz nz 1 3 M (dwMk M (0, 26) 3) := (fr.refl M).mk _ _
  have hR1 : room (dwMk M (0, 26) 3) 1 c := (hR.le (n' := 1 + 1) (u' := 3 + c) (by omega) (by omega)).fr f1
  have i1 : dwI (dwMk M (0, 26) 3) (dwN M) 126 = 0 := by rw [di_Mk, if_pos rfl]
  have n1 : dwN (dwMk M (0, 26) 3) = dwN M + 1 := rfl
  have e1 : m_J1_init (dwMk M (0, 26) 3) (dwN M) = some ((), dwPI (dwMk M (0, 26) 3) (dwN M) 124 0) := by
    unfold m_J1_init m_J0_init
    rw [xob_v, xpI_u (by rw [k1]; rfl)]
  have f1' : fr (atN (dwN M)) (atN (dwN M)) 1 3 M (dwPI (dwMk M (0, 26) 3) (dwN M) 124 0) := (f1.mono (S' := atN (dwN M)) (Z' := atN (dwN M)) (fun _ _ z => False.elim z) (fun _ _ z => False.elim z) (Nat.le_refl _) (Nat.le_refl _)).pI (a := dwN M) (k := 124) 0 (Or.inl (Nat.le_refl (dwN M)))
  have e2 : m_J2_init (dwMk M (0, 26) 3) (dwN M) (Int32.ofNat c) = xnewA (dwPI (dwMk M (0, 26) 3) (dwN M) 124 0) 6 (Int32.ofNat c) (fun o3 M4 => xpR M4 125 (dwN M) o3 (fun M5 => some ((), M5))) := by
    unfold m_J2_init
    rw [e1, xmb_v, if_neg (show ¬ Int32.ofNat c ≤ 0 by rw [show (0 : Int32) = Int32.ofNat 0 from rfl, i_le (by omega) (by omega)]; omega)]
  have k1' : dwK (dwPI (dwMk M (0, 26) 3) (dwN M) 124 0) (dwN M) = (0, 26) := k1
  have i1' : dwI (dwPI (dwMk M (0, 26) 3) (dwN M) 124 0) (dwN M) 126 = 0 := by rw [di_ne (by omega)]; exact i1
  have hR1' : room (dwPI (dwMk M (0, 26) 3) (dwN M) 124 0) 1 c := hR1
  have n1' : dwN (dwPI (dwMk M (0, 26) 3) (dwN M) 124 0) = dwN M + 1 := n1
  rw [e2]
  clear e1 e2 f1 hR1 i1 k1 n1
  generalize dwPI (dwMk M (0, 26) 3) (dwN M) 124 0 = M1 at *
  have f2 : fr (atN (dwN M)) (atN (dwN M)) 1 c M1 (dwPR (dwMk M1 (6, c) c) (dwN M) 125 (some (dwN M1))) := (((fr.refl (S := atN (dwN M)) (Z := atN (dwN M)) M1).mk (6, c) c).pR (a := dwN M) (k := 125) (some (dwN M1)) (Or.inl (Nat.le_refl (dwN M)))).mono (fun _ _ z => z) (fun _ _ z => z) (by omega) (by omega)
  have F := (f1'.trans f2).old (S' := nz) (Z' := nz) (fun a k ha z => by have : dwN M ≤ a := z; omega) (fun a k ha z => by have : dwN M ≤ a := z; omega)
  have kk : dwK (dwMk M1 (6, c) c) (dwN M) = (0, 26) := by rw [dk_Mk, if_neg (by omega)]; exact k1'
  refine ⟨_, ?_, F.mono (fun _ _ z => z) (fun _ _ z => z) (by omega) (by omega), ⟨?_, ?_, ?_, ?_, Nat.zero_le _, by omega, ?_, fun p hp => absurd hp (Nat.not_lt_zero p)⟩, by rw [dn_PR, dn_Mk, n1']⟩
  · rw [xnewA_u (by omega) hR1', xpR_u (by rw [kk]; rfl)]
  · rw [dk_PR]; exact kk
  · rw [di_PR, di_Mk, if_neg (by omega)]; exact i1'
  · rw [dr_PR, if_pos ⟨rfl, rfl⟩, n1']
  · rw [dk_PR, dk_Mk, if_pos n1'.symm]
  · rw [dn_PR, dn_Mk, n1']; omega
end LIST
