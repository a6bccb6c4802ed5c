/-! WORDS, as lists of letters -/
abbrev smN (v : Nat) : Prop := 97 ≤ v ∧ v ≤ 122
def wdF (X : Nat → Nat) (L : Nat) : Nat → Nat → List Nat
  | 0, _ => []
  | n + 1, q => if q < L ∧ smN (X q) then X q :: wdF X L n (q + 1) else []
/-- the letters from q on -/
def wdS (X : Nat → Nat) (L q : Nat) : List Nat := wdF X L (L - q) q
theorem wdS_y {X : Nat → Nat} {L q : Nat} (h : q < L) (hx : smN (X q)) : wdS X L q = X q :: wdS X L (q + 1) := by
  unfold wdS
  rw [show L - q = (L - (q + 1)) + 1 by omega]
  show (if _ then _ else _) = _
  rw [if_pos ⟨h, hx⟩]
theorem wdS_n {X : Nat → Nat} {L q : Nat} (h : ¬ (q < L ∧ smN (X q))) : wdS X L q = [] := by
  unfold wdS
  cases L - q with
  | zero => rfl
  | succ n => show (if _ then _ else _) = _; rw [if_neg h]
theorem wdS_le {X : Nat → Nat} {L : Nat} : ∀ n q, L - q = n → q ≤ L → q + (wdS X L q).length ≤ L := by
  intro n
  induction n with
  | zero => intro q h hq; rw [wdS_n (by omega)]; exact hq
  | succ n ih =>
    intro q h hq
    by_cases hx : smN (X q)
    · rw [wdS_y (by omega) hx, List.length_cons]
      have := ih (q + 1) (by omega) (by omega)
      omega
    · rw [wdS_n (fun z => hx z.2)]; exact hq
theorem wdS_sm {X : Nat → Nat} {L : Nat} : ∀ n q, L - q = n → ∀ v ∈ wdS X L q, smN v := by
  intro n
  induction n with
  | zero => intro q h v hv; rw [wdS_n (by omega)] at hv; exact absurd hv List.not_mem_nil
  | succ n ih =>
    intro q h v hv
    by_cases hx : smN (X q)
    · rw [wdS_y (by omega) hx] at hv
      rcases List.mem_cons.mp hv with rfl | hv
      · exact hx
      · exact ih (q + 1) (by omega) v hv
    · rw [wdS_n (fun z => hx z.2)] at hv; exact absurd hv List.not_mem_nil
/-- a hash, letter by letter -/
def hsF (u : Int32) (ws : List Nat) : Int32 := ws.foldl (fun h v => 31 * h + Int32.ofNat v) u
theorem gd_app (ws : List Nat) (c i : Nat) : (ws ++ [c]).getD i 0 = if i = ws.length then c else ws.getD i 0 := by
  rw [List.getD_eq_getElem?_getD, List.getD_eq_getElem?_getD]
  by_cases h : i < ws.length
  · rw [List.getElem?_append_left h, if_neg (by omega)]
  · by_cases e : i = ws.length
    · subst e
      rw [if_pos rfl, List.getElem?_append_right (Nat.le_refl _), Nat.sub_self]; rfl
    · rw [if_neg e, List.getElem?_eq_none (by simp; omega), List.getElem?_eq_none (by omega)]
section READ
variable {b : Nat} {M : dwSt} {A : dvA} {ρ : Type}
/-- a StringBuilder at x that holds ws -/
def sbO (b : Nat) (M : dwSt) (x v : Nat) (ws : List Nat) : Prop := dwK M x = (0, 27) ∧ dwR M x 127 = some v ∧ dwK M v = (2, 16) ∧ dwI M x 128 = 0 ∧ dwI M x 130 = Int32.ofNat ws.length ∧ (b + 562 ≤ x ∧ b + 562 ≤ v) ∧ (x < dwN M ∧ v < dwN M) ∧ ∀ i, dwI M v i = Int32.ofNat (ws.getD i 0)
theorem sb_e16 : ∀ n, n < 10 → ((Int32.ofNat n + 1) - (Int32.ofNat 16 >>> ((0 : Int32) &&& 31)) ≤ 0) = True := fun n hn => eq_true ((show ∀ n, n < 10 → (Int32.ofNat n + 1) - (Int32.ofNat 16 >>> ((0 : Int32) &&& 31)) ≤ 0 by decide +kernel) n hn)
theorem sb_enc : ∀ c, c < 128 → ((255 : Int32) < Int32.ofNat c) = False := fun c hc => eq_false ((show ∀ c, c < 128 → ¬ (255 : Int32) < Int32.ofNat c by decide +kernel) c hc)
theorem sb_by : ∀ c, c < 128 → (Int8.toInt32 (Int32.toInt8 (Int32.ofNat c))).toInt8.toInt32 = Int32.ofNat c := by decide +kernel
theorem sb_ch : ∀ c, c < 128 → (Int32.toUInt32 (Int32.ofNat c) % 65536).toInt32 = Int32.ofNat c := by decide +kernel
theorem h27_127 : dwHas (0, 27) 127 = true := rfl
theorem h27_128 : dwHas (0, 27) 128 = true := rfl
theorem h27_130 : dwHas (0, 27) 130 = true := rfl
theorem hw27_127 : dwHasW (0, 27) 127 = true := rfl
theorem hw27_128 : dwHasW (0, 27) 128 = true := rfl
theorem hw27_130 : dwHasW (0, 27) 130 = true := rfl
theorem sb_len {x v : Nat} {ws : List Nat} (h : sbO b M x v ws) : m_J8_length M x = some (Int32.ofNat ws.length) := by
  obtain ⟨k, r127, kv, i128, i130, hb, hN, hc⟩ := h
  simp -implicitDefEqProofs only [m_J8_length, m_J7_length, xrk_u k, xgI_u (show dwHas (dwK M x) 130 = true by rw [k]; rfl), i130, xob_v]
theorem sb_app {x v c : Nat} {ws : List Nat} (h : sbO b M x v ws) (hl : ws.length < 10) (hc : c < 128) : m_J8_append_3 M x (Int32.ofNat c) = some (x, dwPI (dwPI M x 130 (Int32.ofNat (ws.length + 1))) v ws.length (Int32.ofNat c)) := by
  obtain ⟨k, r127, kv, i128, i130, hb, hN, hcc⟩ := h
  have g1 : ∀ {σ : Type} (K : Nat → Option σ), xgR M 127 x K = K v := fun K => xgR_v (by rw [k]; rfl) r127 K
  have g2 : ∀ {σ : Type} (K : Int32 → Option σ), xgI M 128 x K = K 0 := fun K => by rw [xgI_u (show dwHas (dwK M x) 128 = true by rw [k]; rfl), i128]
  have g3 : ∀ {σ : Type} (K : Int32 → Option σ), xgI M 130 x K = K (Int32.ofNat ws.length) := fun K => by rw [xgI_u (show dwHas (dwK M x) 130 = true by rw [k]; rfl), i130]
  have g4 : ∀ {σ : Type} (y : Int32) (K : dwSt → Option σ), xpI M 130 x y K = K (dwPI M 130 x y) → xpI M 130 x y K = K (dwPI M 130 x y) := fun _ _ h => h
  have g5 : ∀ {σ : Type} (K : Int32 → Option σ), xlen M v K = K (Int32.ofNat 16) := fun K => by rw [xlen_u (by rw [kv]; decide) (by rw [kv]; decide), kv]
  have e1 := sb_e16 _ hl
  have e2 := sb_enc _ hc
  have en : m_J7_ensureCapacityInternal M x (Int32.ofNat ws.length + 1) = some ((), M) := by
    simp -implicitDefEqProofs only [m_J7_ensureCapacityInternal, g1, g2, g5, e1, if_true]
  have el : m_J7_isLatin1 M x = some 1 := by
    simp -implicitDefEqProofs only [m_J7_isLatin1, g2, e10, if_true, if_false]
  have ec : m_J15_canEncode (Int32.ofNat c) = some 1 := by
    simp -implicitDefEqProofs only [m_J15_canEncode, e2, if_false]
  simp -implicitDefEqProofs only [m_J8_append_3, m_J7_append_3, xrk_u k, xrc_u k (show [27].contains 27 = true from rfl), g3, en, xmb_v, el, xob_v, jn_u, e10, if_false, ec, g1]
  rw [xpI_u (show dwHasW (dwK M x) 130 = true by rw [k]; rfl), xsB_u (by rw [dk_PI, kv]) (by rw [dk_PI, kv]; exact inb_n (by omega) (by omega)), i_nat (by omega), i_succ, sb_by _ hc]
  rfl
theorem sbO.app {x v c : Nat} {ws : List Nat} (h : sbO b M x v ws) (hc : ws.length < 10) : sbO b (dwPI (dwPI M x 130 (Int32.ofNat (ws.length + 1))) v ws.length (Int32.ofNat c)) x v (ws ++ [c]) := by
  obtain ⟨k, r127, kv, i128, i130, hb, hN, hcc⟩ := h
  have hne : x ≠ v := fun e => by rw [e, kv] at k; exact absurd (congrArg Prod.fst k) (by decide)
  refine ⟨k, r127, kv, ?_, ?_, hb, hN, fun i => ?_⟩
  · rw [di_PI, if_neg (by omega), di_PI, if_neg (by omega)]; exact i128
  · rw [di_PI, if_neg (by omega), di_PI, if_pos ⟨rfl, rfl⟩, List.length_append]; rfl
  · rw [di_PI, gd_app]
    by_cases e : i = ws.length
    · rw [if_pos ⟨rfl, e⟩, if_pos e]
    · rw [if_neg (fun z => e z.2), if_neg e, di_PI, if_neg (by omega)]; exact hcc i
theorem sbO.fr {S Z : Nat → Nat → Prop} {n u x v : Nat} {ws : List Nat} {M1 : dwSt} (h : sbO b M x v ws) (f : fr S Z n u M M1) (hS : ∀ k, ¬ S x k ∧ ¬ S v k) (hZ : ∀ k, ¬ Z x k) : sbO b M1 x v ws := by
  obtain ⟨k, r127, kv, i128, i130, hb, hN, hcc⟩ := h
  have := f.n
  exact ⟨(f.k hN.1).trans k, (f.r hN.1 (hZ _)).trans r127, (f.k hN.2).trans kv, (f.i hN.1 (hS _).1).trans i128, (f.i hN.1 (hS _).1).trans i130, hb, ⟨by omega, by omega⟩, fun i => (f.i hN.2 (hS _).2).trans (hcc i)⟩
def sXV (x v : Nat) : Nat → Nat → Prop := fun a _ => a = x ∨ a = v
theorem c_wordL {E : Option ρ → Prop} {K : dwSt → Option ρ} {o ci L x v : Nat} (hL : L ≤ (aTx A).1) : ∀ n q f (ws : List Nat) (M1 : dwSt), L - q = n → n < f → q ≤ L → ws.length ≤ 10 → tpC b M1 A → rdr b M1 o ci L → sbO b M1 x v ws → (∀ M2, fr (sXV x v) nz 0 0 M1 M2 → sbO b M2 x v (ws ++ (wdS (xbN A) L q).take (10 - ws.length)) → E (K M2)) → E (L_X11_word_18 o x K f (Int32.ofNat q) M1) := by
  intro n
  induction n with
  | zero =>
    intro q f ws M1 h1 h2 h3 hw ht hr hb hE
    obtain ⟨f', rfl⟩ : ∃ f', f = f' + 1 := ⟨f - 1, by omega⟩
    have g := rdr_h hr
    have : (Int32.ofNat L ≤ Int32.ofNat q) = True := by rw [show q = L by omega]; exact i_geT L
    rw [L_X11_word_18, xgI_u (g 91 (by omega) (by omega)).1, hr.2.2.2.2.2, if_pos (of_eq_true this)]
    exact hE M1 (fr.refl M1) (by rw [wdS_n (by omega), List.take_nil, List.append_nil]; exact hb)
  | succ n ih =>
    intro q f ws M1 h1 h2 h3 hw ht hr hb hE
    obtain ⟨f', rfl⟩ : ∃ f', f = f' + 1 := ⟨f - 1, by omega⟩
    have g := rdr_h hr
    have ho := ht.2.1
    have hob := hr.2.1
    have hn := shN ht.1
    have hlt : (Int32.ofNat L ≤ Int32.ofNat q) = False := i_geF (by omega) (by omega)
    obtain ⟨v1, v2⟩ := ht.2.2 q (by omega)
    have rd : ∀ (K' : Int32 → Option ρ), xgR M1 90 o (fun v => xaB M1 v (Int32.ofNat q) K') = K' (Int32.ofNat (xbN A q)).toInt8.toInt32 := fun K' => by
      rw [xgR_v (g 90 (by omega) (by omega)).1 hr.2.2.2.2.1, xaB_u (by rw [kd39 ht.1]) (by rw [kd39 ht.1]; exact inb_n (by omega) (by omega)), i_nat (by omega), v2]
    have l1 := b_lt' _ v1 97 (by omega)
    have l2 := b_gt' _ v1 122 (by omega)
    have kx := hb.1
    rw [L_X11_word_18, xgI_u (g 91 (by omega) (by omega)).1, hr.2.2.2.2.2, if_neg (of_eq_false hlt), rd]
    by_cases hx : smN (xbN A q)
    · have hx1 := hx.1
      have hx2 := hx.2
      have n1 : ¬ (Int32.ofNat (xbN A q)).toInt8.toInt32 < 97 := fun z => by have := l1.mp z; omega
      have n2 : ¬ (122 : Int32) < (Int32.ofNat (xbN A q)).toInt8.toInt32 := fun z => by have := l2.mp z; omega
      rw [if_neg n1, rd, if_neg n2, xrk_u kx, sb_len hb, xob_v]
      by_cases hl : ws.length = 10
      · rw [hl, if_pos (show (10 : Int32) ≤ Int32.ofNat 10 by decide)]
        exact hE M1 (fr.refl M1) (by rw [hl]; simpa using hb)
      · have e10l : ¬ (10 : Int32) ≤ Int32.ofNat ws.length := by
          rw [show (10 : Int32) = Int32.ofNat 10 from rfl, i_le (by omega) (by omega)]; omega
        rw [if_neg e10l, rd, xrk_u kx, b_dig (by omega) (by omega), sb_ch _ (by omega), sb_app hb (by omega) (by omega), xmb_v, i_succ]
        have f1 : fr (sXV x v) nz 0 0 M1 (dwPI (dwPI M1 x 130 (Int32.ofNat (ws.length + 1))) v ws.length (Int32.ofNat (xbN A q))) := ((fr.refl M1).pI _ (Or.inl (Or.inl rfl))).pI _ (Or.inl (Or.inr rfl))
        have hbx := hb.2.2.2.2.2.1
        have hkv := hb.2.2.1
        have nxo : o ≠ x := fun e => by
          have := hr.2.2.2.1; rw [e, kx] at this
          have := congrArg Prod.snd this; have := hr.2.2.1; simp only at *; omega
        have nvo : o ≠ v := fun e => by
          have := hr.2.2.2.1; rw [e, hkv] at this
          exact absurd (congrArg Prod.fst this) (show ¬ (2 : Nat) = 0 by decide)
        refine ih (q + 1) f' _ _ (by omega) (by omega) (by omega) (by rw [List.length_append]; simp only [List.length_cons, List.length_nil]; omega) (ht.fr f1 (fun k z => by unfold sXV at z; omega) nz_p) (hr.fr f1 (fun z => by unfold sXV at z; omega) (fun z => z)) (hb.app (by omega)) fun M2 f2 e2 => hE M2 (f1.t0 f2) ?_
        rw [wdS_y (by omega) hx]
        rw [List.append_assoc, List.length_append] at e2
        rw [show 10 - ws.length = (10 - (ws.length + 1)) + 1 by omega, List.take_succ_cons]
        exact e2
    · rw [wdS_n (fun z => hx z.2), List.take_nil, List.append_nil] at hE
      by_cases c1 : (Int32.ofNat (xbN A q)).toInt8.toInt32 < 97
      · rw [if_pos c1]; exact hE M1 (fr.refl M1) hb
      · have c2 : (122 : Int32) < (Int32.ofNat (xbN A q)).toInt8.toInt32 := l2.mpr (by
          have : ¬ (xbN A q < 97 ∨ 128 ≤ xbN A q) := fun z => c1 (l1.mpr z)
          unfold smN at hx; omega)
        rw [if_neg c1, rd, if_pos c2]
        exact hE M1 (fr.refl M1) hb
end READ
