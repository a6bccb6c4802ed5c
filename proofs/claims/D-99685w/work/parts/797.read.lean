/-! A WORK read: the component's acts -/
theorem swAct_of {ws : List Nat} {v : Int32} (h : swv ws swStep = v) (h1 : ¬ v = -1) (h5 : ¬ v = 5) : (v = 0 ∨ v = 1 ∨ v = 2 ∨ v = 3 ∨ v = 4) ∧ swv ws swAct = if v = 4 then -1 else v := by
  unfold swStep at h
  simp only [swv] at h
  split at h
  · next e => subst e; subst h; exact ⟨by decide, by decide +kernel⟩
  split at h
  · next e => subst e; subst h; exact ⟨by decide, by decide +kernel⟩
  split at h
  · next e => subst e; subst h; exact ⟨by decide, by decide +kernel⟩
  split at h
  · next e => subst e; subst h; exact ⟨by decide, by decide +kernel⟩
  split at h
  · next e => exact absurd h.symm h5
  split at h
  · next e => subst e; subst h; exact ⟨by decide, by decide +kernel⟩
  exact absurd h.symm h1
section WK
variable {b : Nat} {w : Nat → Nat} {M : dwSt} {A : dvA} {T : dvT} {lw : (Nat → Int32) → Int32} {N d L : Nat}
def sAc (N s : Nat) : Nat → Nat → Prop := fun a k => sNo N a k ∨ a = s
/-- an act read -/
def cAz (b : Nat) (w : Nat → Nat) (A : dvA) (T : dvT) (lw : (Nat → Int32) → Int32) (N d L k s : Nat) (M : dwSt) (x : rsW) (z : dwR9 Nat) : Prop := match x with
  | .inl u => ∃ M2 o, z = some (.inl o, M2) ∧ fr (sAc N s) nz 1 2 M M2 ∧ wkC b w M2 A T N d L k u.2 ∧ cStp (fun a => dwN M ≤ a) M2 T lw 1 o u.1.1
  | .inr e => bdC N 2 12 M e z
theorem cAz_pre {k s : Nat} {M1 : dwSt} {x : rsW} {z : dwR9 Nat} (f : fr (sAc N s) nz 0 0 M M1) (hs : N ≤ s) (h : cAz b w A T lw N d L k s M1 x z) : cAz b w A T lw N d L k s M x z := by
  cases x with
  | inr e => exact (bdC.pre h f (fun a k z => by rcases z with z | z; have := z.1; omega; omega) nz_N).le (by omega) (by omega)
  | inl u =>
    obtain ⟨M2, o, e, f2, g, c⟩ := h
    exact ⟨M2, o, e, (f.trans f2).mono (fun _ _ z => z) (fun _ _ z => z) (by omega) (by omega), g, cStp_V (fun a _ ha => Nat.le_trans f.n ha) _ _ _ c⟩
/-- an object made, whatever is then read -/
theorem wk_new {k p ci n : Nat} (h : wkC b w M A T N d L k p) : fr nz nz 1 n M (dwMk M (0, ci) n) ∧ wkC b w (dwMk M (0, ci) n) A T N d L k p ∧ dwK (dwMk M (0, ci) n) (dwN M) = (0, ci) ∧ dwN (dwMk M (0, ci) n) = dwN M + 1 := by
  have f : fr nz nz 1 n M (dwMk M (0, ci) n) := ((fr.refl M).mk (0, ci) n).mono (fun _ _ z => z) (fun _ _ z => z) (by omega) (by omega)
  exact ⟨f, wk_z h f, by rw [dk_Mk, if_pos rfl], rfl⟩
theorem wk_pI {k p o j : Nat} {v : Int32} (h : wkC b w M A T N d L k p) (ho : N < o) : wkC b w (dwPI M o j v) A T N d L k p := by
  have f : fr (fun a k => a = o ∧ k = j) nz 0 0 M (dwPI M o j v) := (fr.refl M).pI _ (Or.inl ⟨rfl, rfl⟩)
  have hb := h.1.2.1.2.1
  exact wk_to h f (fun a k _ z => ⟨by have := z.1; omega, fun e => by have := z.1; omega⟩) (fun _ _ _ z => False.elim z) (h.1.fr f (fun a k z => ⟨by have := z.1; omega, fun e => by have := z.1; omega⟩) (fun _ _ z => False.elim z))
theorem wk_act {k q s : Nat} {ws : List Nat} {v : Int32} (h : wkC b w M A T N d L k q) (hs : strO b M s ws) (hw : ws.length ≤ 10) (hsm : ∀ c ∈ ws, smN c) (hNs : N < s) (hv : swv ws swStep = v) (h1 : ¬ v = -1) (h5 : ¬ v = 5) (hqL : q ≤ L) (hR : room M 4 40) : cAz b w A T lw N d L k s M (acW T lw (xbN A) L v q) (m_X22_act M N s) := by
  obtain ⟨vs, ⟨ks, rs⟩, rs2⟩ := id hs
  obtain ⟨M3, e3, f3, s3⟩ := c_hash hs hw hsm
  have c3 := h.1.fr f3 (fun a j z => by have := z.1; have := h.1.2.1.2.1; exact ⟨by omega, fun e => by omega⟩) (fun _ _ z => False.elim z)
  have l3 := wk_to h f3 (fun a j _ z => by have := z.1; exact ⟨by omega, fun e => by omega⟩) (fun _ _ _ z => False.elim z) c3
  have hk3 := l3.1.2.1.2.2.2.1
  have hN3 := l3.1.2.1.1
  have hR3 : room M3 4 40 := (hR.le (n' := 0 + 4) (u' := 0 + 40) (by omega) (by omega)).fr f3
  have F3 : fr (sAc N s) nz 0 0 M M3 := f3.mono (fun a k z => Or.inr z.1) (fun _ _ z => z) (Nat.le_refl _) (Nat.le_refl _)
  obtain ⟨hvc, hsw⟩ := swAct_of hv h1 h5
  unfold m_X22_act
  rw [xrk_u ks, e3, xmb_v]
  refine cAz_pre F3 (by omega) ?_
  refine jn_s (E := cAz b w A T lw N d L k s M3 (acW T lw (xbN A) L v q)) (Q := fun J => cAz b w A T lw N d L k s M3 (acW T lw (xbN A) L v q) (J (swv ws swAct))) ?_ ?_
  · rw [hsw]
    have sn : ∀ {M1 M2 : dwSt}, fr (sNo N) nz 0 0 M1 M2 → fr (sAc N s) nz 0 0 M1 M2 := fun f => f.mono (fun a k z => Or.inl z) (fun _ _ z => z) (Nat.le_refl _) (Nat.le_refl _)
    have hP7 := l3.2.2.2.2.1.2.2.1
    have hJ6 := l3.2.2.2.2.1.2.2.2.1
    rcases hvc with rfl | rfl | rfl | rfl | rfl
    · -- tell
      rw [if_neg (show ¬ (0 : Int32) = 4 by decide)]
      obtain ⟨t5, t6, t7⟩ := l3.2.2.2.2.1
      obtain ⟨-, kd, -, ⟨l, r24, h4⟩, -⟩ := id t6
      have q4 := wk_num (lo := 0) (hi := hiN (tJ T)) l3 (hR3.le (by omega) (by omega))
      have ea : acW T lw (xbN A) L 0 q = mkW (fun a => stG T lw 0 a (vaR (nbS (xbN A) L 0 (hiN (tJ T)) q))) (nuR (xbN A) L 0 (hiN (tP T)) (poR (nbS (xbN A) L 0 (hiN (tJ T)) q))) := rfl
      rw [if_pos rfl, xgR_v (t := d) (by rw [hk3]; rfl) t5, xgR_v (t := l) (by rw [kd]; rfl) r24, xrk_u h4.2.1]
      unfold m_J2_size
      rw [xgI_u (by rw [h4.2.1]; rfl), h4.2.2.1, xob_v, xrk_u hk3, ea]
      show cAz b w A T lw N d L k s M3 _ (xth (m_X11_number M3 N 0 (hiN (tJ T))) _ _)
      cases hx1 : nbS (xbN A) L 0 (hiN (tJ T)) q with
      | inr e =>
        rw [hx1] at q4
        exact (bdC.th q4).le (by omega) (by omega)
      | inl y =>
        rw [hx1] at q4
        obtain ⟨M4, e4, f4, l4⟩ := q4
        obtain ⟨m1, m2, m3, mI⟩ := nbS_le hqL hx1
        have nn4 := f4.n
        have hR4 : room M4 3 30 := (hR3.le (n' := 0 + 3) (u' := 0 + 30) (by omega) (by omega)).fr f4
        rw [e4, xth_v, xnew_u (n := 2) (by decide) (hR4.le (by omega) (by omega))]
        obtain ⟨f5, l5, k5, n5⟩ := wk_new (ci := 20) (n := 2) l4
        have hR5 : room (dwMk M4 (0, 20) 2) 1 8 := (hR4.le (n' := 1 + 1) (u' := 2 + 8) (by omega) (by omega)).fr f5
        generalize dwMk M4 (0, 20) 2 = M5 at *
        have hk5 := l5.1.2.1.2.2.2.1
        have q6 := wk_person l5 hR5
        rw [xrk_u hk5]
        show cAz b w A T lw N d L k s M3 (mkW (fun a => stG T lw 0 a y.1) (nbS (xbN A) L 0 (hiN (tP T)) y.2)) _
        cases hx : nbS (xbN A) L 0 (hiN (tP T)) y.2 with
        | inr e =>
          rw [hx] at q6
          exact (bdC.pre (bdC.pre (bdC.th q6) f5 nz_N nz_N) f4 sNo_N nz_N).le (by omega) (by omega)
        | inl z =>
          rw [hx] at q6
          obtain ⟨M6, e6, f6, l6⟩ := q6
          obtain ⟨n1, n2, n3, nI⟩ := nbS_le m3 hx
          have k6 : dwK M6 (dwN M4) = (0, 20) := (f6.k (by omega)).trans k5
          have nn6 := f6.n
          have e7 : m_X25_init M6 (dwN M4) (Int32.ofNat y.1) (Int32.ofNat z.1) = some ((), dwPI (dwPI M6 (dwN M4) 116 (Int32.ofNat y.1)) (dwN M4) 117 (Int32.ofNat z.1)) := by
            unfold m_X25_init m_X24_init m_X23_init
            rw [xob_v, xob_v, xpI_u (by rw [k6]; rfl), xpI_u (by rw [dk_PI, k6]; rfl)]
          have f7 : fr (fun a k => a = dwN M4) nz 0 0 M6 (dwPI (dwPI M6 (dwN M4) 116 (Int32.ofNat y.1)) (dwN M4) 117 (Int32.ofNat z.1)) := ((fr.refl (S := fun a _ => a = dwN M4) (Z := nz) M6).pI (a := dwN M4) (k := 116) _ (Or.inl rfl)).pI (a := dwN M4) (k := 117) _ (Or.inl rfl)
          have F7 : fr (sAc N s) nz 1 2 M3 (dwPI (dwPI M6 (dwN M4) 116 (Int32.ofNat y.1)) (dwN M4) 117 (Int32.ofNat z.1)) := ((((sn f4).mono (S' := fun a k => sAc N s a k ∨ a = dwN M4) (Z' := nz) (fun _ _ z => Or.inl z) (fun _ _ z => z) (Nat.le_refl _) (Nat.le_refl _)).trans (f5.mono (fun _ _ z => False.elim z) (fun _ _ z => z) (Nat.le_refl _) (Nat.le_refl _))).t0 ((sn f6).mono (fun a k z => Or.inl z) (fun _ _ z => z) (Nat.le_refl _) (Nat.le_refl _))).t0 (f7.mono (fun a k z => Or.inr z) (fun _ _ z => z) (Nat.le_refl _) (Nat.le_refl _)) |>.old (fun a k ha z => z.resolve_right (by omega)) (fun _ _ _ z => z) |>.mono (fun _ _ z => z) (fun _ _ z => z) (by omega) (by omega)
          have hN4 : N < dwN M4 := by omega
          rw [e6, xth_v, e7, xmb_v]
          refine ⟨_, dwN M4, rfl, F7, wk_pI (wk_pI l6 hN4) hN4, ⟨nn4, by show dwN M4 < dwN M6; omega⟩, Or.inl ⟨0, z.1, y.1, Or.inl ⟨rfl, inV_lt (by omega) (by omega) nI, inV_lt (by omega) (by omega) mI⟩, ⟨k6, fun _ => ⟨by rw [di_ne (by omega), di_eq], di_eq⟩, fun z => by omega, fun z => by omega, fun z => by omega⟩, rfl⟩⟩
    · -- grieve
      rw [if_neg (show ¬ (1 : Int32) = 4 by decide)]
      have q4 := wk_person l3 (hR3.le (by omega) (by omega))
      have ea : acW T lw (xbN A) L 1 q = mkW (fun c => stG T lw 1 (vaR (nbS (xbN A) L 0 (hiN (tP T)) q)) c) (nuR (xbN A) L 1 9 (poR (nbS (xbN A) L 0 (hiN (tP T)) q))) := rfl
      rw [if_neg (show ¬ (1 : Int32) = 0 by decide), if_pos rfl, xrk_u hk3, ea]
      cases hx1 : nbS (xbN A) L 0 (hiN (tP T)) q with
      | inr e =>
        rw [hx1] at q4
        exact (bdC.th q4).le (by omega) (by omega)
      | inl y =>
        rw [hx1] at q4
        obtain ⟨M4, e4, f4, l4⟩ := q4
        obtain ⟨m1, m2, m3, mI⟩ := nbS_le hqL hx1
        have nn4 := f4.n
        have hR4 : room M4 3 30 := (hR3.le (n' := 0 + 3) (u' := 0 + 30) (by omega) (by omega)).fr f4
        rw [e4, xth_v, xnew_u (n := 2) (by decide) (hR4.le (by omega) (by omega))]
        obtain ⟨f5, l5, k5, n5⟩ := wk_new (ci := 21) (n := 2) l4
        have hR5 : room (dwMk M4 (0, 21) 2) 1 8 := (hR4.le (n' := 1 + 1) (u' := 2 + 8) (by omega) (by omega)).fr f5
        generalize dwMk M4 (0, 21) 2 = M5 at *
        have hk5 := l5.1.2.1.2.2.2.1
        have q6 := wk_num (lo := 1) (hi := 9) l5 hR5
        rw [xrk_u hk5]
        show cAz b w A T lw N d L k s M3 (mkW (fun c => stG T lw 1 y.1 c) (nbS (xbN A) L 1 9 y.2)) _
        cases hx : nbS (xbN A) L 1 9 y.2 with
        | inr e =>
          rw [hx] at q6
          exact (bdC.pre (bdC.pre (bdC.th q6) f5 nz_N nz_N) f4 sNo_N nz_N).le (by omega) (by omega)
        | inl z =>
          rw [hx] at q6
          obtain ⟨M6, e6, f6, l6⟩ := q6
          obtain ⟨n1, n2, n3, nI⟩ := nbS_le m3 hx
          have k6 : dwK M6 (dwN M4) = (0, 21) := (f6.k (by omega)).trans k5
          have nn6 := f6.n
          have e7 : m_X26_init M6 (dwN M4) (Int32.ofNat y.1) (Int32.ofNat z.1) = some ((), dwPI (dwPI M6 (dwN M4) 118 (Int32.ofNat y.1)) (dwN M4) 119 (Int32.ofNat z.1)) := by
            unfold m_X26_init m_X24_init m_X23_init
            rw [xob_v, xob_v, xpI_u (by rw [k6]; rfl), xpI_u (by rw [dk_PI, k6]; rfl)]
          have f7 : fr (fun a k => a = dwN M4) nz 0 0 M6 (dwPI (dwPI M6 (dwN M4) 118 (Int32.ofNat y.1)) (dwN M4) 119 (Int32.ofNat z.1)) := ((fr.refl (S := fun a _ => a = dwN M4) (Z := nz) M6).pI (a := dwN M4) (k := 118) _ (Or.inl rfl)).pI (a := dwN M4) (k := 119) _ (Or.inl rfl)
          have F7 : fr (sAc N s) nz 1 2 M3 (dwPI (dwPI M6 (dwN M4) 118 (Int32.ofNat y.1)) (dwN M4) 119 (Int32.ofNat z.1)) := ((((sn f4).mono (S' := fun a k => sAc N s a k ∨ a = dwN M4) (Z' := nz) (fun _ _ z => Or.inl z) (fun _ _ z => z) (Nat.le_refl _) (Nat.le_refl _)).trans (f5.mono (fun _ _ z => False.elim z) (fun _ _ z => z) (Nat.le_refl _) (Nat.le_refl _))).t0 ((sn f6).mono (fun a k z => Or.inl z) (fun _ _ z => z) (Nat.le_refl _) (Nat.le_refl _))).t0 (f7.mono (fun a k z => Or.inr z) (fun _ _ z => z) (Nat.le_refl _) (Nat.le_refl _)) |>.old (fun a k ha z => z.resolve_right (by omega)) (fun _ _ _ z => z) |>.mono (fun _ _ z => z) (fun _ _ z => z) (by omega) (by omega)
          have hN4 : N < dwN M4 := by omega
          rw [e6, xth_v, e7, xmb_v]
          refine ⟨_, dwN M4, rfl, F7, wk_pI (wk_pI l6 hN4) hN4, ⟨nn4, by show dwN M4 < dwN M6; omega⟩, Or.inl ⟨1, y.1, z.1, Or.inr (Or.inl ⟨rfl, inV_lt (by omega) (by omega) mI, by have := (inV_le (lo := 1) (hi := 9) (by omega) (by omega) (by omega) nI).2; omega⟩), ⟨k6, fun z => by omega, fun _ => ⟨by rw [di_ne (by omega), di_eq], di_eq⟩, fun z => by omega, fun z => by omega⟩, rfl⟩⟩
    · -- cheer
      rw [if_neg (show ¬ (2 : Int32) = 4 by decide)]
      rw [if_neg (show ¬ (2 : Int32) = 0 by decide), if_neg (show ¬ (2 : Int32) = 1 by decide), if_pos rfl, xnew_u (n := 1) (by decide) (hR3.le (by omega) (by omega))]
      obtain ⟨f4, l4, k4, n4⟩ := wk_new (ci := 22) (n := 1) l3
      have hR4 : room (dwMk M3 (0, 22) 1) 1 8 := (hR3.le (n' := 1 + 1) (u' := 1 + 8) (by omega) (by omega)).fr f4
      generalize dwMk M3 (0, 22) 1 = M4 at *
      have hk4 := l4.1.2.1.2.2.2.1
      have q5 := wk_person l4 hR4
      have ea : acW T lw (xbN A) L 2 q = mkW (fun a => stG T lw 2 a 0) (nbS (xbN A) L 0 (hiN (tP T)) q) := rfl
      rw [ea, xrk_u hk4]
      cases hx : nbS (xbN A) L 0 (hiN (tP T)) q with
      | inr e =>
        rw [hx] at q5
        exact (bdC.pre (bdC.th q5) f4 nz_N nz_N).le (by omega) (by omega)
      | inl z =>
        rw [hx] at q5
        obtain ⟨M5, e5, f5, l5⟩ := q5
        obtain ⟨n1, n2, n3, nI⟩ := nbS_le hqL hx
        have k5 : dwK M5 (dwN M3) = (0, 22) := (f5.k (by omega)).trans k4
        have nn5 := f5.n
        have e6 : m_X27_init M5 (dwN M3) (Int32.ofNat z.1) = some ((), dwPI M5 (dwN M3) 120 (Int32.ofNat z.1)) := by
          unfold m_X27_init m_X24_init m_X23_init
          rw [xob_v, xob_v, xpI_u (by rw [k5]; rfl)]
        have f6 := frP M5 (dwN M3) 120 (Int32.ofNat z.1)
        have F6 : fr (sAc N s) nz 1 2 M3 (dwPI M5 (dwN M3) 120 (Int32.ofNat z.1)) := (((f4.mono (S' := fun a k => sAc N s a k ∨ a = dwN M3) (Z' := nz) (fun _ _ z => False.elim z) (fun _ _ z => z) (Nat.le_refl _) (Nat.le_refl _)).t0 ((sn f5).mono (fun a k z => Or.inl z) (fun _ _ z => z) (Nat.le_refl _) (Nat.le_refl _))).t0 (f6.mono (fun a k z => Or.inr z) (fun _ _ z => z) (Nat.le_refl _) (Nat.le_refl _))).old (fun a k ha z => z.resolve_right (by omega)) (fun _ _ _ z => z) |>.mono (fun _ _ z => z) (fun _ _ z => z) (by omega) (by omega)
        rw [e5, xth_v, e6, xmb_v]
        refine ⟨_, dwN M3, rfl, F6, wk_pI l5 hN3, ⟨Nat.le_refl _, by show dwN M3 < dwN M5; omega⟩, Or.inl ⟨2, z.1, 0, Or.inr (Or.inr (Or.inl ⟨rfl, inV_lt (by omega) (by omega) nI⟩)), ⟨k5, fun z => by omega, fun z => by omega, fun _ => di_eq, fun z => by omega⟩, rfl⟩⟩
    · -- pour
      rw [if_neg (show ¬ (3 : Int32) = 4 by decide)]
      rw [if_neg (show ¬ (3 : Int32) = 0 by decide), if_neg (show ¬ (3 : Int32) = 1 by decide), if_neg (show ¬ (3 : Int32) = 2 by decide), if_pos rfl, xnew_u (n := 1) (by decide) (hR3.le (by omega) (by omega))]
      obtain ⟨f4, l4, k4, n4⟩ := wk_new (ci := 23) (n := 1) l3
      have hR4 : room (dwMk M3 (0, 23) 1) 1 8 := (hR3.le (n' := 1 + 1) (u' := 1 + 8) (by omega) (by omega)).fr f4
      generalize dwMk M3 (0, 23) 1 = M4 at *
      have hk4 := l4.1.2.1.2.2.2.1
      have q5 := wk_num (lo := 1) (hi := 99) l4 hR4
      have ea : acW T lw (xbN A) L 3 q = mkW (fun a => stG T lw 3 a 0) (nbS (xbN A) L 1 99 q) := rfl
      rw [ea, xrk_u hk4]
      cases hx : nbS (xbN A) L 1 99 q with
      | inr e =>
        rw [hx] at q5
        exact (bdC.pre (bdC.th q5) f4 nz_N nz_N).le (by omega) (by omega)
      | inl z =>
        rw [hx] at q5
        obtain ⟨M5, e5, f5, l5⟩ := q5
        obtain ⟨n1, n2, n3, nI⟩ := nbS_le hqL hx
        have k5 : dwK M5 (dwN M3) = (0, 23) := (f5.k (by omega)).trans k4
        have nn5 := f5.n
        have e6 : m_X28_init M5 (dwN M3) (Int32.ofNat z.1) = some ((), dwPI M5 (dwN M3) 121 (Int32.ofNat z.1)) := by
          unfold m_X28_init m_X24_init m_X23_init
          rw [xob_v, xob_v, xpI_u (by rw [k5]; rfl)]
        have f6 := frP M5 (dwN M3) 121 (Int32.ofNat z.1)
        have F6 : fr (sAc N s) nz 1 2 M3 (dwPI M5 (dwN M3) 121 (Int32.ofNat z.1)) := (((f4.mono (S' := fun a k => sAc N s a k ∨ a = dwN M3) (Z' := nz) (fun _ _ z => False.elim z) (fun _ _ z => z) (Nat.le_refl _) (Nat.le_refl _)).t0 ((sn f5).mono (fun a k z => Or.inl z) (fun _ _ z => z) (Nat.le_refl _) (Nat.le_refl _))).t0 (f6.mono (fun a k z => Or.inr z) (fun _ _ z => z) (Nat.le_refl _) (Nat.le_refl _))).old (fun a k ha z => z.resolve_right (by omega)) (fun _ _ _ z => z) |>.mono (fun _ _ z => z) (fun _ _ z => z) (by omega) (by omega)
        rw [e5, xth_v, e6, xmb_v]
        refine ⟨_, dwN M3, rfl, F6, wk_pI l5 hN3, ⟨Nat.le_refl _, by show dwN M3 < dwN M5; omega⟩, Or.inl ⟨3, z.1, 0, Or.inr (Or.inr (Or.inr (Or.inl ⟨rfl, by have := (inV_le (lo := 1) (hi := 99) (by omega) (by omega) (by omega) nI).2; omega⟩))), ⟨k5, fun z => by omega, fun z => by omega, fun z => by omega, fun _ => di_eq⟩, rfl⟩⟩
    · -- day
      rw [if_pos rfl]
      rw [if_neg (show ¬ (-1 : Int32) = 0 by decide), if_neg (show ¬ (-1 : Int32) = 1 by decide), if_neg (show ¬ (-1 : Int32) = 2 by decide), if_neg (show ¬ (-1 : Int32) = 3 by decide), xnew_u (n := 0) (by decide) (hR3.le (by omega) (by omega))]
      obtain ⟨f4, l4, k4, n4⟩ := wk_new (ci := 24) (n := 0) l3
      generalize dwMk M3 (0, 24) 0 = M4 at *
      have e6 : m_X29_init (dwN M3) = some () := rfl
      have ea : acW T lw (xbN A) L 4 q = .inl ((stG T lw 4 0 0, 1, 1), q) := rfl
      rw [ea, e6, xob_v]
      exact ⟨M4, dwN M3, rfl, f4.mono (fun _ _ z => False.elim z) (fun _ _ z => z) (by omega) (by omega), l4, ⟨Nat.le_refl _, by omega⟩, Or.inl ⟨4, 0, 0, Or.inr (Or.inr (Or.inr (Or.inr rfl))), ⟨k4, fun z => by omega, fun z => by omega, fun z => by omega, fun z => by omega⟩, rfl⟩⟩
  · intro K hK
    show cAz b w A T lw N d L k s M3 (acW T lw (xbN A) L v q) (swc M3 s (hsF 0 ws) K swAct)
    rw [sw_eq l3.2.2.2.1 s3 hw hsm swAct swAct_ok]
    exact hK
end WK
