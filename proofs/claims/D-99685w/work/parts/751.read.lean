/-! WORDS as objects: a String made, its hash, its length; is it a constant -/
theorem sb_and : ∀ c, c < 128 → Int32.ofNat c &&& 255 = Int32.ofNat c := by decide +kernel
theorem gd_drop (ws : List Nat) (i : Nat) (h : i < ws.length) : ws.drop i = ws.getD i 0 :: ws.drop (i + 1) := by
  rw [List.drop_eq_getElem_cons h, List.getD_eq_getElem?_getD, List.getElem?_eq_getElem h]; rfl
theorem gd_mem (ws : List Nat) (i : Nat) (h : i < ws.length) : ws.getD i 0 ∈ ws := by
  rw [List.getD_eq_getElem?_getD, List.getElem?_eq_getElem h]
  exact List.getElem_mem h
section READ
variable {b : Nat} {M : dwSt} {A : dvA} {ρ : Type}
theorem xnew_u {M : dwSt} {ci n : Nat} {K : Nat → dwSt → Option ρ} (hf : (dwFs ci).length = n) (hR : room M 1 n) : xnew M ci K = K (dwN M) (dwMk M (0, ci) n) := by
  unfold xnew
  unfold room at hR
  rw [hf, if_pos ⟨by omega, by omega⟩]
theorem xnewA_u {M : dwSt} {t n : Nat} {K : Nat → dwSt → Option ρ} (hn : n ≤ 1000) (hR : room M 1 n) : xnewA M t (Int32.ofNat n) K = K (dwN M) (dwMk M (t, n) n) := by
  unfold xnewA
  unfold room at hR
  rw [i_toInt (by omega), i_nat (by omega), if_pos ⟨by omega, by omega, by omega, by omega⟩]
theorem xcpyB_u {M : dwSt} {a c n : Nat} {K : dwSt → Option ρ} (h1 : (dwK M a).1 = 2) (h2 : (dwK M c).1 = 2) (h3 : n ≤ (dwK M a).2) (h4 : n ≤ (dwK M c).2) (hn : n < 2147483648) (hb : ∀ i, i < n → (dwI M a i).toInt8.toInt32 = dwI M a i) : xcpy M 2 a 0 c 0 (Int32.ofNat n) K = K (dwCp M a c n) := by
  unfold xcpy
  rw [if_pos ⟨⟨h1, h2⟩, ⟨by decide, by decide, by rw [i_toInt hn]; omega⟩, by rw [i_toInt hn, show (0 : Int32).toInt = 0 from rfl]; omega, by rw [i_toInt hn, show (0 : Int32).toInt = 0 from rfl]; omega, Or.inr fun i hi => by
    rw [i_nat hn] at hi
    rw [show (0 : Int32).toNatClampNeg = 0 from rfl, Nat.zero_add]; exact hb i hi⟩]
  rw [i_nat hn]
  rfl
/-- a String at s: its letters ws -/
def strO (b : Nat) (M : dwSt) (s : Nat) (ws : List Nat) : Prop := ∃ v, (dwK M s = (0, 28) ∧ dwR M s 131 = some v ∧ dwK M v = (2, ws.length) ∧ dwI M s 132 = 0) ∧ (dwI M s 133 = 0 ∨ dwI M s 133 = hsF 0 ws) ∧ (dwI M s 134 = 0 ∨ hsF 0 ws = 0) ∧ (∀ i, i < ws.length → dwI M v i = Int32.ofNat (ws.getD i 0)) ∧ (b + 562 ≤ s ∧ b + 562 ≤ v) ∧ (s < dwN M ∧ v < dwN M)
theorem strO.fr {S Z : Nat → Nat → Prop} {n u s : Nat} {ws : List Nat} {M1 : dwSt} (h : strO b M s ws) (f : fr S Z n u M M1) (hS : ∀ a k, b + 562 ≤ a → (dwK M a = (0, 28) ∨ (dwK M a).1 = 2) → ¬ S a k) (hZ : ∀ k, ¬ Z s k) : strO b M1 s ws := by
  obtain ⟨v, ⟨k, r, kv, i132⟩, i133, i134, hc, hb, hN⟩ := h
  have := f.n
  have s1 : ∀ k, ¬ S s k := fun j => hS s j hb.1 (Or.inl k)
  have s2 : ∀ k, ¬ S v k := fun j => hS v j hb.2 (Or.inr (by rw [kv]))
  refine ⟨v, ⟨(f.k hN.1).trans k, (f.r hN.1 (hZ _)).trans r, (f.k hN.2).trans kv, (f.i hN.1 (s1 _)).trans i132⟩, ?_, ?_, fun i hi => (f.i hN.2 (s2 _)).trans (hc i hi), hb, by omega, by omega⟩
  · rw [f.i hN.1 (s1 _)]; exact i133
  · rw [f.i hN.1 (s1 _)]; exact i134
theorem c_toS {x v : Nat} {ws : List Nat} {M1 : dwSt} (h : sbO b M1 x v ws) (hw : ws.length ≤ 10) (hR : room M1 2 14) (hsm : ∀ c ∈ ws, smN c) (hbN : b + 562 ≤ dwN M1) : ∃ M2, m_J8_toString M1 x = some (dwN M1, M2) ∧ fr nz nz 2 14 M1 M2 ∧ strO b M2 (dwN M1) ws := by
  obtain ⟨hx, hv⟩ := h.2.2.2.2.2.2.1
  have f3 : fr nz nz 1 4 M1 (dwMk M1 (0, 28) 4) := (fr.refl M1).mk (0, 28) 4
  have h3 := h.fr f3 (fun k => ⟨fun z => z, fun z => z⟩) (fun k z => z)
  have k3 : dwK (dwMk M1 (0, 28) 4) (dwN M1) = (0, 28) := by rw [dk_Mk, if_pos rfl]
  have i3 : ∀ k, dwI (dwMk M1 (0, 28) 4) (dwN M1) k = 0 := fun k => by rw [di_Mk, if_pos rfl]
  have n3 : dwN (dwMk M1 (0, 28) 4) = dwN M1 + 1 := rfl
  have hR3 : room (dwMk M1 (0, 28) 4) 1 ws.length := (hR.le (n' := 1 + 1) (u' := 4 + ws.length) (by omega) (by omega)).fr f3
  have e0 : m_J8_toString M1 x = xmb (m_J9_init (dwMk M1 (0, 28) 4) (dwN M1) x) (fun _ M4 => some (dwN M1, M4)) := by
    unfold m_J8_toString
    rw [xnew_u (n := 4) (by decide) (hR.le (by omega) (by omega))]
  generalize hs : dwN M1 = s at *
  generalize dwMk M1 (0, 28) 4 = M3 at *
  have f4 : fr (fun a _ => a = s) nz 0 0 M3 (dwPI M3 s 132 0) := (fr.refl M3).pI _ (Or.inl rfl)
  have h4 := h3.fr f4 (fun k => ⟨by omega, by omega⟩) (fun k z => z)
  have k4 : dwK (dwPI M3 s 132 0) s = (0, 28) := k3
  have i4 : ∀ k, dwI (dwPI M3 s 132 0) s k = 0 := fun k => by
    rw [di_PI]
    by_cases e : s = s ∧ k = 132
    · rw [if_pos e]
    · rw [if_neg e]; exact i3 k
  have n4 : dwN (dwPI M3 s 132 0) = s + 1 := n3
  have hR4 : room (dwPI M3 s 132 0) 1 ws.length := hR3
  have e1 : m_J9_init_2 M3 s x none = xmb (m_J13_copyOfRange (dwPI M3 s 132 0) v 0 (Int32.ofNat ws.length)) (fun v10 M11 => xpR M11 131 s v10 (fun M12 => some ((), M12))) := by
    obtain ⟨k, r127, kv, i128, i130, -⟩ := id h3
    have g1 : ∀ {σ : Type} (K : Nat → Option σ), xgR M3 127 x K = K v := fun K => xgR_v (by rw [k]; rfl) r127 K
    have g2 : ∀ {σ : Type} (K : Int32 → Option σ), xgI M3 128 x K = K 0 := fun K => by rw [xgI_u (show dwHas (dwK M3 x) 128 = true by rw [k]; rfl), i128]
    have el : m_J7_isLatin1 M3 x = some 1 := by
      simp -implicitDefEqProofs only [m_J7_isLatin1, g2, e10, if_true, if_false]
    have eg : m_J7_getValue M3 x = some v := by simp -implicitDefEqProofs only [m_J7_getValue, g1]
    have ed : D_AbstractStringBuilder_length M3 x = some (Int32.ofNat ws.length) := by
      unfold D_AbstractStringBuilder_length xsw
      rw [if_pos k]; exact sb_len h3
    unfold m_J9_init_2
    rw [xrc_u k rfl, eg, xob_v, ed, xob_v, xrc_u k rfl, el, xob_v, if_neg (by decide), xpI_u (show dwHasW (dwK M3 s) 132 = true by rw [k3]; rfl)]
  generalize dwPI M3 s 132 0 = M4 at *
  have f5 : fr nz nz 1 ws.length M4 (dwMk M4 (2, ws.length) ws.length) := ((fr.refl M4).mk (2, ws.length) ws.length).mono (fun _ _ z => z) (fun _ _ z => z) (by omega) (by omega)
  have h5 := h4.fr f5 (fun k => ⟨fun z => z, fun z => z⟩) (fun k z => z)
  have k5 : dwK (dwMk M4 (2, ws.length) ws.length) (s + 1) = (2, ws.length) := by rw [dk_Mk, if_pos n4.symm]
  have k5s : dwK (dwMk M4 (2, ws.length) ws.length) s = (0, 28) := by rw [dk_Mk, if_neg (by omega)]; exact k4
  have i5 : ∀ k, dwI (dwMk M4 (2, ws.length) ws.length) s k = 0 := fun k => by rw [di_Mk, if_neg (by omega)]; exact i4 k
  have n5 : dwN (dwMk M4 (2, ws.length) ws.length) = s + 2 := by rw [dn_Mk, n4]
  have e2 : m_J13_copyOfRange M4 v 0 (Int32.ofNat ws.length) = some (s + 1, dwCp (dwMk M4 (2, ws.length) ws.length) v (s + 1) ws.length) := by
    obtain ⟨k, r127, kv, i128, i130, -⟩ := id h4
    have kv5 := h5.2.2.1
    have hc5 := h5.2.2.2.2.2.2.2
    have l1 : ∀ {σ : Type} (K : Int32 → Option σ), xlen M4 v K = K (Int32.ofNat 16) := fun K => by rw [xlen_u (by rw [kv]; show 1 ≤ 2; omega) (by rw [kv]; show 2 ≤ 6; omega), kv]
    have l2 : ∀ {σ : Type} (K : Int32 → Option σ), xlen (dwMk M4 (2, ws.length) ws.length) v K = K (Int32.ofNat 16) := fun K => by rw [xlen_u (by rw [kv5]; decide) (by rw [kv5]; decide), kv5]
    have ne16 : ¬ Int32.ofNat ws.length = Int32.ofNat 16 := by rw [i_inj (by omega) (by omega)]; omega
    have le0 : (0 : Int32) ≤ Int32.ofNat ws.length := by rw [show (0 : Int32) = Int32.ofNat 0 from rfl, i_le (by omega) (by omega)]; omega
    have lt16 : Int32.ofNat ws.length < Int32.ofNat 16 := by rw [i_lt (by omega) (by omega)]; omega
    unfold m_J13_copyOfRange
    rw [if_pos rfl, l1, if_neg ne16]
    unfold m_J13_copyOfRangeByte m_J13_checkLength
    rw [if_pos le0, xmb_v, Int32.sub_zero, xnewA_u (by omega) hR4, l2, Int32.sub_zero, if_pos lt16, n4, xcpyB_u (by rw [kv5]) (by rw [k5]) (by rw [kv5]; show ws.length ≤ 16; omega) (by rw [k5]; exact Nat.le_refl _) (by omega) fun i hi => by
      rw [hc5 i]
      have := hsm _ (gd_mem ws i hi)
      exact b_dig (by omega) (by omega)]
    rfl
  have hc5 := h5.2.2.2.2.2.2.2
  have hvs := h5.2.2.2.2.2.2.1
  have hU : ∀ a k, a < s → ¬ (fun (a _ : Nat) => s ≤ a) a k := fun a k h1 h2 => by have : s ≤ a := h2; omega
  have F5 : fr (fun a _ => s ≤ a) (fun a _ => s ≤ a) 1 ws.length M4 (dwPR (dwCp (dwMk M4 (2, ws.length) ws.length) v (s + 1) ws.length) s 131 (some (s + 1))) := fr.mono (S := fun a _ => s ≤ a) (Z := fun a _ => s ≤ a) (cn := 0 + 1) (cu := 0 + ws.length) ((((fr.refl M4).mk (2, ws.length) ws.length).cp (a := v) (c := s + 1) (n := ws.length) (Or.inl fun _ => by omega)).pR (a := s) (k := 131) (some (s + 1)) (Or.inl (Nat.le_refl _))) (fun _ _ z => z) (fun _ _ z => z) (by omega) (by omega)
  have F3 : fr (fun a _ => s ≤ a) (fun a _ => s ≤ a) 1 4 M1 M3 := f3.mono (fun _ _ z => False.elim z) (fun _ _ z => False.elim z) (Nat.le_refl _) (Nat.le_refl _)
  have F4 : fr (fun a _ => s ≤ a) (fun a _ => s ≤ a) 0 0 M3 M4 := f4.mono (fun a _ z => Nat.le_of_eq (Eq.symm z)) (fun _ _ z => False.elim z) (Nat.le_refl _) (Nat.le_refl _)
  have F := ((F3.t0 F4).trans F5).old (S' := nz) (Z' := nz) (fun a k ha z => absurd z (hU a k (by omega))) (fun a k ha z => absurd z (hU a k (by omega)))
  refine ⟨_, ?_, F.mono (fun _ _ z => z) (fun _ _ z => z) (by omega) (by omega), s + 1, ⟨?_, ?_, ?_, ?_⟩, Or.inl ?_, Or.inl ?_, fun i hi => ?_, ⟨hbN, by omega⟩, ?_⟩
  · rw [e0]
    unfold m_J9_init
    rw [e1, e2, xmb_v, xpR_u (show dwHasW (dwK (dwCp (dwMk M4 (2, ws.length) ws.length) v (s + 1) ws.length) s) 131 = true by rw [dk_Cp, k5s]; rfl)]
    rfl
  · rw [dk_PR, dk_Cp]; exact k5s
  · rw [dr_PR, if_pos ⟨rfl, rfl⟩]
  · rw [dk_PR, dk_Cp]; exact k5
  · rw [di_PR, di_Cpn (by omega)]; exact i5 132
  · rw [di_PR, di_Cpn (by omega)]; exact i5 133
  · rw [di_PR, di_Cpn (by omega)]; exact i5 134
  · rw [di_PR, di_Cpe hi]; exact hc5 i
  · rw [dn_PR]
    show s < dwN (dwMk M4 (2, ws.length) ws.length) ∧ s + 1 < dwN (dwMk M4 (2, ws.length) ws.length)
    omega
def sPs (s : Nat) : Nat → Nat → Prop := fun a k => a = s ∧ (k = 133 ∨ k = 134)
theorem c_hashL {K : Int32 → Option ρ} {v : Nat} {ws : List Nat} (kv : dwK M v = (2, ws.length)) (hw : ws.length ≤ 10) (hc : ∀ i, i < ws.length → dwI M v i = Int32.ofNat (ws.getD i 0)) (hsm : ∀ c ∈ ws, smN c) : ∀ n i f (u : Int32), ws.length - i = n → n < f → i ≤ ws.length → L_J11_signedHashCode_8 M v (Int32.ofNat ws.length) K f u (Int32.ofNat i) = K (hsF u (ws.drop i)) := by
  intro n
  induction n with
  | zero =>
    intro i f u h1 h2 h3
    obtain ⟨f', rfl⟩ : ∃ f', f = f' + 1 := ⟨f - 1, by omega⟩
    rw [L_J11_signedHashCode_8, show i = ws.length by omega, if_pos (of_eq_true (i_geT _)), List.drop_length]
    rfl
  | succ n ih =>
    intro i f u h1 h2 h3
    obtain ⟨f', rfl⟩ : ∃ f', f = f' + 1 := ⟨f - 1, by omega⟩
    have hm := hsm _ (gd_mem ws i (by omega))
    rw [L_J11_signedHashCode_8, if_neg (of_eq_false (i_geF (by omega) (by omega))), xaB_u (by rw [kv]) (by rw [kv]; exact inb_n (by omega) (by omega)), i_nat (by omega), hc i (by omega), sb_and _ (by omega), i_succ, ih (i + 1) f' _ (by omega) (by omega) (by omega), gd_drop ws i (by omega)]
    rfl
theorem c_hash15 {v : Nat} {ws : List Nat} (kv : dwK M v = (2, ws.length)) (hw : ws.length ≤ 10) (hc : ∀ i, i < ws.length → dwI M v i = Int32.ofNat (ws.getD i 0)) (hsm : ∀ c ∈ ws, smN c) : m_J15_hashCode M v = some (hsF 0 ws, M) := by
  have l1 : ∀ {σ : Type} (K : Int32 → Option σ), xlen M v K = K (Int32.ofNat ws.length) := fun K => by rw [xlen_u (by rw [kv]; show 1 ≤ 2; omega) (by rw [kv]; show 2 ≤ 6; omega), kv]
  unfold m_J15_hashCode
  rw [l1]
  by_cases e0 : ws.length = 0
  · rw [e0, if_pos (show Int32.ofNat 0 = 0 from rfl), List.eq_nil_of_length_eq_zero e0]; rfl
  · have n0 : ¬ Int32.ofNat ws.length = 0 := by rw [show (0 : Int32) = Int32.ofNat 0 from rfl, i_inj (by omega) (by omega)]; exact e0
    rw [if_neg n0]
    by_cases e1 : ws.length = 1
    · rw [e1, if_pos (show Int32.ofNat 1 = 1 from rfl)]
      obtain ⟨c, rfl⟩ := List.length_eq_one_iff.mp e1
      have hm := hsm c (List.mem_singleton.mpr rfl)
      rw [show (0 : Int32) = Int32.ofNat 0 from rfl, xaB_u (by rw [kv]) (by rw [kv]; exact inb_n (by rw [e1]; omega) (by omega)), i_nat (by omega), hc 0 (by rw [e1]; omega)]
      show some (Int32.ofNat c &&& 255, M) = some (31 * 0 + Int32.ofNat c, M)
      rw [sb_and _ (by omega), show (31 : Int32) * 0 = 0 from rfl, Int32.zero_add]
    · have n1 : ¬ Int32.ofNat ws.length = 1 := by rw [show (1 : Int32) = Int32.ofNat 1 from rfl, i_inj (by omega) (by omega)]; exact e1
      have kb : (dwK M v).1 = 2 := by rw [kv]
      rw [if_neg n1, l1]
      unfold m_J11_vectorizedHashCode xbar m_J11_signedHashCode
      rw [if_pos rfl, if_pos kb, jn_u, Int32.zero_add]
      show xmb (xob (L_J11_signedHashCode_8 M v (Int32.ofNat ws.length) (fun y1 => some y1) 1000000 0 (Int32.ofNat 0)) _) _ = _
      rw [c_hashL kv hw hc hsm ws.length 0 1000000 0 (by omega) (by omega) (by omega), List.drop_zero]
      rfl
theorem c_hash {s : Nat} {ws : List Nat} (h : strO b M s ws) (hw : ws.length ≤ 10) (hsm : ∀ c ∈ ws, smN c) : ∃ M2, m_J9_hashCode M s = some (hsF 0 ws, M2) ∧ fr (sPs s) nz 0 0 M M2 ∧ strO b M2 s ws := by
  obtain ⟨v, ⟨k, r, kv, i132⟩, i133, i134, hc, hb, hN⟩ := h
  have g : ∀ f, 131 ≤ f → f ≤ 134 → dwHas (dwK M s) f = true := fun f h1 h2 => by rw [k]; exact hs28 h1 h2
  have gw : ∀ f, 131 ≤ f → f ≤ 134 → dwHasW (dwK M s) f = true := fun f h1 h2 => by rw [k]; exact hw28 h1 h2
  have nvs : v ≠ s := fun e => by rw [e, k] at kv; exact absurd (congrArg Prod.fst kv) (show ¬ (0 : Nat) = 2 by decide)
  unfold m_J9_hashCode
  rw [xgI_u (g 133 (by omega) (by omega))]
  by_cases e : dwI M s 133 = 0
  · rw [if_pos e, xgI_u (g 134 (by omega) (by omega))]
    by_cases e2 : dwI M s 134 = 0
    · have el : m_J9_isLatin1 M s = some 1 := by
        unfold m_J9_isLatin1
        rw [if_neg (by decide), xgI_u (g 132 (by omega) (by omega)), if_pos i132]
      rw [if_pos e2, xrk_u k, el, xob_v, if_neg (by decide), xgR_v (g 131 (by omega) (by omega)) r, c_hash15 kv hw hc hsm, xmb_v]
      by_cases e3 : hsF 0 ws = 0
      · rw [if_pos e3, xpI_u (gw 134 (by omega) (by omega))]
        refine ⟨_, rfl, (fr.refl M).pI _ (Or.inl ⟨rfl, Or.inr rfl⟩), v, ⟨k, r, kv, ?_⟩, Or.inl ?_, Or.inr e3, fun i hi => ?_, hb, hN⟩
        · rw [di_PI, if_neg (by omega)]; exact i132
        · rw [di_PI, if_neg (by omega)]; exact e
        · rw [di_PI, if_neg (fun z => nvs z.1)]; exact hc i hi
      · rw [if_neg e3, xpI_u (gw 133 (by omega) (by omega))]
        refine ⟨_, rfl, (fr.refl M).pI _ (Or.inl ⟨rfl, Or.inl rfl⟩), v, ⟨k, r, kv, ?_⟩, Or.inr ?_, Or.inl ?_, fun i hi => ?_, hb, hN⟩
        · rw [di_PI, if_neg (by omega)]; exact i132
        · rw [di_PI, if_pos ⟨rfl, rfl⟩]
        · rw [di_PI, if_neg (by omega)]; exact e2
        · rw [di_PI, if_neg (fun z => nvs z.1)]; exact hc i hi
    · have e3 : hsF 0 ws = 0 := i134.resolve_left e2
      rw [if_neg e2, e]
      exact ⟨M, by rw [e3], (fr.refl M).mono (fun _ _ z => z) (fun _ _ z => z) (Nat.le_refl _) (Nat.le_refl _), v, ⟨k, r, kv, i132⟩, i133, i134, hc, hb, hN⟩
  · have e3 : dwI M s 133 = hsF 0 ws := i133.resolve_left e
    rw [if_neg e, e3]
    exact ⟨M, rfl, fr.refl M, v, ⟨k, r, kv, i132⟩, i133, i134, hc, hb, hN⟩
theorem c_slen {s : Nat} {ws : List Nat} (h : strO b M s ws) : m_J9_length M s = some (Int32.ofNat ws.length) := by
  obtain ⟨v, ⟨k, r, kv, i132⟩, -⟩ := h
  have g : ∀ f, 131 ≤ f → f ≤ 134 → dwHas (dwK M s) f = true := fun f h1 h2 => by rw [k]; exact hs28 h1 h2
  have l1 : ∀ {σ : Type} (K : Int32 → Option σ), xlen M v K = K (Int32.ofNat ws.length) := fun K => by rw [xlen_u (by rw [kv]; show 1 ≤ 2; omega) (by rw [kv]; show 2 ≤ 6; omega), kv]
  have ec : m_J9_coder M s = some 0 := by
    unfold m_J9_coder
    rw [if_neg (by decide), xgI_u (g 132 (by omega) (by omega)), i132]; rfl
  unfold m_J9_length
  rw [xgR_v (g 131 (by omega) (by omega)) r, l1, xrk_u k, ec, xob_v, show (0 : Int32) &&& 31 = 0 from rfl, Int32.shiftRight_zero]
/-- constant k is the text cs -/
def kst (b : Nat) (M : dwSt) (k : Nat) (cs : List Nat) : Prop := ∃ v, (dwX M k < b ∧ v < b) ∧ dwK M (dwX M k) = (10, 28) ∧ dwR M (dwX M k) 131 = some v ∧ dwI M (dwX M k) 132 = 0 ∧ dwK M v = (12, cs.length) ∧ ∀ i, i < cs.length → dwI M v i = Int32.ofNat (cs.getD i 0)
theorem kst.fr {S Z : Nat → Nat → Prop} {n u k : Nat} {cs : List Nat} {M1 : dwSt} (h : kst b M k cs) (hn : b ≤ dwN M) (f : fr S Z n u M M1) (hS : ∀ a k, a < b → ¬ S a k) (hZ : ∀ a k, a < b → ¬ Z a k) : kst b M1 k cs := by
  obtain ⟨v, ⟨h1, h2⟩, h3, h4, h5, h6, h7⟩ := h
  have e := f.x
  refine ⟨v, ⟨by rw [e]; exact h1, h2⟩, ?_, ?_, ?_, (f.k (by omega)).trans h6, fun i hi => (f.i (by omega) (hS _ _ h2)).trans (h7 i hi)⟩
  · rw [e]; exact (f.k (by omega)).trans h3
  · rw [e]; exact (f.r (by omega) (hZ _ _ h1)).trans h4
  · rw [e]; exact (f.i (by omega) (hS _ _ h1)).trans h5
theorem c_eqL {K1 K2 : Unit → Option ρ} {v y : Nat} {ws cs : List Nat} (kv : dwK M v = (2, ws.length)) (ky : dwK M y = (12, cs.length)) (he : ws.length = cs.length) (hw : ws.length ≤ 10) (hc : ∀ i, i < ws.length → dwI M v i = Int32.ofNat (ws.getD i 0)) (hd : ∀ i, i < cs.length → dwI M y i = Int32.ofNat (cs.getD i 0)) (h1 : ∀ c ∈ ws, c < 128) (h2 : ∀ c ∈ cs, c < 128) : ∀ n i f, ws.length - i = n → n < f → i ≤ ws.length → L_J15_equals_9 M v y K1 K2 f (Int32.ofNat i) = if ws.drop i = cs.drop i then K2 () else K1 () := by
  intro n
  induction n with
  | zero =>
    intro i f q1 q2 q3
    obtain ⟨f', rfl⟩ : ∃ f', f = f' + 1 := ⟨f - 1, by omega⟩
    have l1 : ∀ {σ : Type} (K : Int32 → Option σ), xlen M v K = K (Int32.ofNat ws.length) := fun K => by rw [xlen_u (by rw [kv]; show 1 ≤ 2; omega) (by rw [kv]; show 2 ≤ 6; omega), kv]
    have hi : i = ws.length := by omega
    rw [L_J15_equals_9, l1, hi, if_pos (of_eq_true (i_geT _)), List.drop_length, he, List.drop_length, if_pos rfl]
  | succ n ih =>
    intro i f q1 q2 q3
    obtain ⟨f', rfl⟩ : ∃ f', f = f' + 1 := ⟨f - 1, by omega⟩
    have l1 : ∀ {σ : Type} (K : Int32 → Option σ), xlen M v K = K (Int32.ofNat ws.length) := fun K => by rw [xlen_u (by rw [kv]; show 1 ≤ 2; omega) (by rw [kv]; show 2 ≤ 6; omega), kv]
    have m1 := h1 _ (gd_mem ws i (by omega))
    have m2 := h2 _ (gd_mem cs i (by omega))
    rw [L_J15_equals_9, l1, if_neg (of_eq_false (i_geF (by omega) (by omega))), xaB_u (by rw [kv]) (by rw [kv]; exact inb_n (by omega) (by omega))]
    unfold xaB
    rw [if_pos ⟨Or.inr (by rw [ky]), by rw [ky, i_toInt (by omega)]; exact ⟨by omega, by show (i : Int) < ((cs.length : Nat) : Int); omega⟩⟩, i_nat (by omega), hc i (by omega), hd i (by omega), gd_drop ws i (by omega), gd_drop cs i (by omega), i_succ, ih (i + 1) f' (by omega) (by omega) (by omega)]
    show (if Int32.ofNat (ws.getD i 0) = Int32.ofNat (cs.getD i 0) then (if List.drop (i + 1) ws = List.drop (i + 1) cs then K2 () else K1 ()) else K1 ()) = _
    have hii : (Int32.ofNat (ws.getD i 0) = Int32.ofNat (cs.getD i 0)) ↔ ws.getD i 0 = cs.getD i 0 := i_inj (by omega) (by omega)
    by_cases e : ws.getD i 0 = cs.getD i 0
    · rw [if_pos (hii.mpr e), e]
      by_cases e2 : ws.drop (i + 1) = cs.drop (i + 1)
      · rw [if_pos e2, e2, if_pos rfl]
      · rw [if_neg e2, if_neg (fun z => e2 (List.cons.inj z).2)]
    · rw [if_neg (fun z => e (hii.mp z)), if_neg (fun z => e (List.cons.inj z).1)]
theorem c_eqs {s k : Nat} {ws cs : List Nat} (h : strO b M s ws) (hk : kst b M k cs) (hw : ws.length ≤ 10) (h1 : ∀ c ∈ ws, smN c) (h2 : ∀ c ∈ cs, c < 128) (h3 : cs.length ≤ 10) : m_J9_equals M s (dwX M k) = some (if ws = cs then 1 else 0) := by
  obtain ⟨v, ⟨ks, r, kv, i132⟩, i133, i134, hc, hb, hN⟩ := h
  obtain ⟨y, ⟨q1, q2⟩, q3, q4, q5, q6, q7⟩ := hk
  have h1' : ∀ c ∈ ws, c < 128 := fun c hc => by have := h1 c hc; omega
  have l1 : ∀ {σ : Type} (K : Int32 → Option σ), xlen M v K = K (Int32.ofNat ws.length) := fun K => by rw [xlen_u (by rw [kv]; show 1 ≤ 2; omega) (by rw [kv]; show 2 ≤ 6; omega), kv]
  have l2 : ∀ {σ : Type} (K : Int32 → Option σ), xlen M y K = K (Int32.ofNat cs.length) := fun K => by
    unfold xlen
    rw [if_pos (by rw [q6]; exact ⟨by omega, Or.inr (Or.inr rfl)⟩), q6]
  have he : m_J15_equals M v y = some (if ws = cs then 1 else 0) := by
    unfold m_J15_equals
    rw [l1, l2]
    by_cases e : ws.length = cs.length
    · rw [if_pos (by rw [e]), jn_u, jn_u]
      show L_J15_equals_9 M v y _ _ 1000000 (Int32.ofNat 0) = _
      rw [c_eqL kv q6 e hw hc q7 h1' h2 ws.length 0 1000000 (by omega) (by omega) (by omega), List.drop_zero, List.drop_zero]
      by_cases e2 : ws = cs
      · rw [if_pos e2, if_pos e2]
      · rw [if_neg e2, if_neg e2]
    · rw [if_neg (by rw [i_inj (by omega) (by omega)]; exact e), if_neg (fun z => e (by rw [z]))]
  have ne : ¬ s = dwX M k := by omega
  have xi : ∀ (X : Option Int32), xist M (dwX M k) [(0, 28), (10, 28)] X = X := fun X => by
    unfold xist
    rw [q3]; rfl
  have c1 : dwHas (dwK M s) 131 = true := by rw [ks]; rfl
  have c2 : dwHas (dwK M s) 132 = true := by rw [ks]; rfl
  have c3 : dwHas (dwK M (dwX M k)) 131 = true := by rw [q3]; rfl
  have c4 : dwHas (dwK M (dwX M k)) 132 = true := by rw [q3]; rfl
  unfold m_J9_equals
  rw [if_neg ne, xi, if_neg (by decide), xi, jn_u, if_neg (by decide), xgI_u c2, xgI_u c4, i132, q5, if_pos rfl, xgR_v c1 r, xgR_v c3 q4, he, xob_v]
  by_cases e : ws = cs
  · rw [if_pos e, if_neg (by decide)]
  · rw [if_neg e, if_pos rfl]
end READ
