/-! SWITCHES on a word; the table: text, its hash, its constant's number, what it means -/
abbrev swT : Type := List (List Nat × Int32 × Nat × Int32)
def kwPerson : List Nat := [112, 101, 114, 115, 111, 110]
def kwJoke : List Nat := [106, 111, 107, 101]
def kwStreet : List Nat := [115, 116, 114, 101, 101, 116]
def kwJug : List Nat := [106, 117, 103]
def kwDrink : List Nat := [100, 114, 105, 110, 107]
def kwStrong : List Nat := [115, 116, 114, 111, 110, 103]
def kwApart : List Nat := [97, 112, 97, 114, 116]
def kwWorn : List Nat := [119, 111, 114, 110]
def kwTold : List Nat := [116, 111, 108, 100]
def kwDimples : List Nat := [100, 105, 109, 112, 108, 101, 115]
def kwGrief : List Nat := [103, 114, 105, 101, 102]
def kwNear : List Nat := [110, 101, 97, 114]
def kwThirst : List Nat := [116, 104, 105, 114, 115, 116]
def kwDay : List Nat := [100, 97, 121]
def kwLeast : List Nat := [108, 101, 97, 115, 116]
def kwMost : List Nat := [109, 111, 115, 116]
def kwTell : List Nat := [116, 101, 108, 108]
def kwGrieve : List Nat := [103, 114, 105, 101, 118, 101]
def kwCheer : List Nat := [99, 104, 101, 101, 114]
def kwPour : List Nat := [112, 111, 117, 114]
def kwAgain : List Nat := [97, 103, 97, 105, 110]
/-- the constants by their numbers -/
def kstL : List (Nat × List Nat) := [(3, kwPerson), (4, kwJoke), (5, kwStreet), (6, kwJug), (7, kwDrink), (8, kwStrong), (9, kwApart), (10, kwWorn), (11, kwTold), (12, kwDimples), (13, kwGrief), (14, kwNear), (15, kwThirst), (16, kwDay), (17, kwPerson), (18, kwLeast), (19, kwMost), (20, kwTell), (21, kwGrieve), (22, kwCheer), (23, kwPour), (24, kwDay), (25, kwAgain)]
def KS (b : Nat) (M : dwSt) : Prop := ∀ x ∈ kstL, kst b M x.1 x.2
/-- what a word means by a table; -1: nothing -/
def swv (ws : List Nat) : swT → Int32
  | [] => -1
  | x :: t => if ws = x.1 then x.2.2.2 else swv ws t
def swOK (t : swT) : Prop := (∀ x ∈ t, hsF 0 x.1 = x.2.1 ∧ x.1.length < 10 ∧ (∀ c ∈ x.1, c < 128) ∧ (x.2.2.1, x.1) ∈ kstL) ∧ (t.map (fun x => x.2.1)).Nodup
theorem swv_no {ws : List Nat} : ∀ t : swT, (∀ x ∈ t, hsF 0 x.1 = x.2.1) → (∀ x ∈ t, ¬ hsF 0 ws = x.2.1) → swv ws t = -1 := by
  intro t
  induction t with
  | nil => intro _ _; rfl
  | cons x t ih =>
    intro h1 h2
    rw [swv, if_neg (fun e => h2 x List.mem_cons_self (by rw [e]; exact h1 x List.mem_cons_self))]
    exact ih (fun y hy => h1 y (List.mem_cons_of_mem _ hy)) (fun y hy => h2 y (List.mem_cons_of_mem _ hy))
section SW
variable {b : Nat} {M : dwSt} {A : dvA} {ρ : Type}
theorem KS.fr {S Z : Nat → Nat → Prop} {n u : Nat} {M1 : dwSt} (h : KS b M) (hn : b ≤ dwN M) (f : fr S Z n u M M1) (hS : ∀ a k, S a k → b ≤ a) (hZ : ∀ a k, Z a k → b ≤ a) : KS b M1 := fun x hx => (h x hx).fr hn f (fun a k ha z => by have := hS a k z; omega) (fun a k ha z => by have := hZ a k z; omega)
/-- the switch as it is printed -/
def swc (M : dwSt) (s : Nat) (v : Int32) (J : Int32 → Option ρ) : swT → Option ρ
  | [] => J (-1)
  | x :: t => if v = x.2.1 then xrk M s 28 (xob (m_J9_equals M s (dwX M x.2.2.1)) (fun z => if z = 0 then J (-1) else J x.2.2.2)) else swc M s v J t
theorem sw_eq {s : Nat} {ws : List Nat} {J : Int32 → Option ρ} (hk : KS b M) (h : strO b M s ws) (hw : ws.length ≤ 10) (hsm : ∀ c ∈ ws, smN c) : ∀ t : swT, swOK t → swc M s (hsF 0 ws) J t = J (swv ws t) := by
  intro t
  induction t with
  | nil => intro _; rfl
  | cons x t ih =>
    intro ho
    obtain ⟨q1, q2, q3, q4⟩ := ho.1 x List.mem_cons_self
    obtain ⟨v, ⟨ks, hh⟩⟩ := h
    have hnd := List.nodup_cons.mp (by simpa using ho.2 : (x.2.1 :: t.map (fun x => x.2.1)).Nodup)
    have ho' : swOK t := ⟨fun y hy => ho.1 y (List.mem_cons_of_mem _ hy), hnd.2⟩
    have he := c_eqs (k := x.2.2.1) (cs := x.1) ⟨v, ⟨ks, hh⟩⟩ (hk _ q4) hw hsm q3 (by omega)
    rw [swc, swv]
    by_cases e : hsF 0 ws = x.2.1
    · rw [if_pos e, xrk_u ks.1, he, xob_v]
      by_cases e2 : ws = x.1
      · rw [if_pos e2, if_pos e2, if_neg (by decide)]
      · rw [if_neg e2, if_neg e2, if_pos rfl, swv_no t (fun y hy => (ho'.1 y hy).1) (fun y hy z => hnd.1 (List.mem_map.mpr ⟨y, hy, (e.symm.trans z).symm⟩))]
    · rw [if_neg e, if_neg (fun e2 => e (by rw [e2]; exact q1))]
      exact ih ho'
end SW
def swLand : swT := [(kwPerson, -991716523, 3, 0), (kwStreet, -891990013, 5, 2), (kwJug, 105596, 6, 3), (kwJoke, 3267935, 4, 1), (kwDrink, 95852696, 7, 4)]
def swFull : swT := [(kwPerson, -991716523, 3, 0), (kwStreet, -891990013, 5, 2), (kwJoke, 3267935, 4, 1)]
def swLand2 : swT := [(kwPerson, -991716523, 3, 0), (kwStreet, -891990013, 5, 2), (kwJug, 105596, 6, 3), (kwJoke, 3267935, 4, 1)]
def swUnit : swT := [(kwPerson, -991716523, 17, 9), (kwStrong, -891980137, 8, 0), (kwThirst, -874698306, 15, 7), (kwDay, 99228, 16, 8), (kwMost, 3357571, 19, 11), (kwNear, 3377192, 14, 6), (kwTold, 3565875, 11, 3), (kwWorn, 3655444, 10, 2), (kwApart, 93014996, 9, 1), (kwGrief, 98622975, 13, 5), (kwLeast, 102846057, 18, 10), (kwDimples, 1666223154, 12, 4)]
def swStep : swT := [(kwGrieve, -1237654474, 21, 1), (kwDay, 99228, 24, 4), (kwPour, 3447004, 23, 3), (kwTell, 3556273, 20, 0), (kwAgain, 92746592, 25, 5), (kwCheer, 94627149, 22, 2)]
def swAct : swT := [(kwGrieve, -1237654474, 21, 1), (kwPour, 3447004, 23, 3), (kwTell, 3556273, 20, 0), (kwCheer, 94627149, 22, 2)]
theorem swLand_ok : swOK swLand := ⟨by decide +kernel, by decide +kernel⟩
theorem swFull_ok : swOK swFull := ⟨by decide +kernel, by decide +kernel⟩
theorem swLand2_ok : swOK swLand2 := ⟨by decide +kernel, by decide +kernel⟩
theorem swUnit_ok : swOK swUnit := ⟨by decide +kernel, by decide +kernel⟩
theorem swStep_ok : swOK swStep := ⟨by decide +kernel, by decide +kernel⟩
theorem swAct_ok : swOK swAct := ⟨by decide +kernel, by decide +kernel⟩
/-! the twin's words, by 27s -/
def vlF (u : Nat) (ws : List Nat) : Nat := ws.foldl (fun u v => 27 * u + (v - 96)) u
theorem vlF_app (u : Nat) (ws : List Nat) (c : Nat) : vlF u (ws ++ [c]) = 27 * vlF u ws + (c - 96) := by
  unfold vlF
  rw [List.foldl_append]; rfl
theorem vl_inj : ∀ n (ws cs : List Nat), ws.length = n → (∀ v ∈ ws, smN v) → (∀ v ∈ cs, smN v) → vlF 0 ws = vlF 0 cs → ws = cs := by
  intro n
  induction n with
  | zero =>
    intro ws cs h h1 h2 he
    have e := List.eq_nil_of_length_eq_zero h
    subst e
    rcases List.eq_nil_or_concat cs with rfl | ⟨cs', c, rfl⟩
    · rfl
    · rw [List.concat_eq_append, vlF_app] at he
      have := h2 c (by simp)
      have : vlF 0 [] = 0 := rfl
      omega
  | succ n ih =>
    intro ws cs h h1 h2 he
    rcases List.eq_nil_or_concat ws with rfl | ⟨ws', c, rfl⟩
    · simp at h
    · rw [List.concat_eq_append] at *
      rw [vlF_app] at he
      have hc := h1 c (by simp)
      rcases List.eq_nil_or_concat cs with rfl | ⟨cs', d, rfl⟩
      · have : vlF 0 [] = 0 := rfl
        omega
      · rw [List.concat_eq_append] at *
        rw [vlF_app] at he
        have hd := h2 d (by simp)
        have e1 : c = d := by omega
        have e2 : vlF 0 ws' = vlF 0 cs' := by omega
        have e3 := ih ws' cs' (by simp at h; exact h) (fun v hv => h1 v (by simp [hv])) (fun v hv => h2 v (by simp [hv])) e2
        rw [e1, e3]
theorem vl_lt : ∀ (ws : List Nat), (∀ v ∈ ws, smN v) → ∀ u k, u < 27 ^ k → vlF u ws < 27 ^ (k + ws.length) := by
  intro ws
  induction ws with
  | nil => intro _ u k h; exact h
  | cons v ws ih =>
    intro hs u k h
    have hv := hs v List.mem_cons_self
    have := ih (fun x hx => hs x (List.mem_cons_of_mem _ hx)) (27 * u + (v - 96)) (k + 1) (by rw [Nat.pow_succ]; omega)
    show vlF (27 * u + (v - 96)) ws < _
    rw [List.length_cons, show k + (ws.length + 1) = k + 1 + ws.length by omega]
    exact this
/-- the first six by 27s, i of them gone -/
def vl6 : Nat → Nat → List Nat → Nat
  | _, u, [] => u
  | i, u, v :: t => vl6 (i + 1) (if 6 ≤ i then u else 27 * u + (v - 96)) t
theorem vl6_e : ∀ (ws : List Nat) i u, i + ws.length ≤ 6 → vl6 i u ws = vlF u ws := by
  intro ws
  induction ws with
  | nil => intro i u _; rfl
  | cons v t ih =>
    intro i u h
    rw [List.length_cons] at h
    rw [vl6, if_neg (by omega), ih _ _ (by omega)]
    rfl
theorem vl6_o : ∀ (ws : List Nat) i u, 6 ≤ i → vl6 i u ws = u := by
  intro ws
  induction ws with
  | nil => intro i u _; rfl
  | cons v t ih => intro i u h; rw [vl6, if_pos h]; exact ih _ _ (by omega)
