theorem fi_s {H : Nat → sp_H} {j m i : Nat} : sp_fi H j (m + 1) i = if sp_lb (H i) (H j) = true then some i else sp_fi H j m (i + 1) := rfl
theorem ra_so {H : Nat → sp_H} {w : Nat} {p : Nat × Nat} : sp_ra H w (some p) = if w = 0 then Int32.ofNat p.1 else if w = 1 then Int32.ofNat (p.2 - p.1) else H p.1 (w - 2) := rfl
section
variable {σ : ah_S} {b nb G : Nat} {ga ra ba kd : Nat → Nat} {hd : Nat → Int32} {sz : Nat → Nat} {el : sp_E} {V : sp_V} {lw : sp_W} {h : sp_H} {s : Nat → Int32} {n : Nat}
theorem hq_hw (hr : sp_rg G V) (hG : G ≤ 7) : ∀ m i h, sp_hw h → sp_hw (sp_rn V G lw s m i h) := by
  intro m
  induction m with
  | zero => intro i h hv; exact hv
  | succ m ih => intro i h hv; exact ih (i + 1) _ (sp_hwg hr hG hv)
theorem hq_hv (hr : sp_rg G V) (hG : G ≤ 7) (hv : sp_hw h) : ∀ j, sp_hw (sp_hq V G lw s n h j) := by
  intro j
  induction j with
  | zero => exact hv
  | succ j ih => exact hq_hw hr hG n 0 _ ih
/-- what the class answers of rest -/
def xrs_ (b : Nat) (H : Nat → sp_H) (σ : ah_S) (o : Option (Nat × Nat)) (r : Int32 × ah_S) : Prop := ag_ b [5, 11, 13, 19] σ r.2 ∧ match o with
  | none => r.1 = 0
  | some p => r.1 = 1 ∧ p.1 ≤ 200 ∧ ah_fi r.2 23 b = Int32.ofNat p.1 ∧ ah_fi r.2 24 b = Int32.ofNat (p.2 - p.1) ∧ xst_ r.2 b p.1 (H p.1)
theorem xst_ag {L : List Nat} {τ : ah_S} {j : Nat} (A : ag_ b L σ τ) (h0 : sk_ok σ b) (hl : 13 ∉ L) (X : xst_ σ b j h) : xst_ τ b j h := by
  have e : ∀ l, ah_ai τ (b + 23) l = ah_ai σ (b + 23) l := fun l => ag_ai A h0 (by decide) (by exact hl) l
  unfold xst_
  simp only [e]
  exact X
theorem lx_r61 {K : ah_S → Option Nat → Int32 → Option (Int32 × ah_S)} {j : Nat} {H : Nat → sp_H} {ρ : ah_S} {o : Option (Nat × Nat)} (hj : j ≤ 200) (hH : ∀ i, sp_hw (H i)) (A : ag_ b [5, 11, 13, 19] ρ σ) (X : ∀ i, i ≤ j → xst_ σ b i (H i)) (hK : sp_fi H j j 0 = none → pu_ok (K σ (some b) (Int32.ofNat (j + 1))) (xrs_ b H ρ o)) (hS : ∀ i, sp_fi H j j 0 = some i → o = some (i, j)) : ∀ m i q, i + m = j → m < q → sp_fi H j m i = sp_fi H j j 0 → pu_ok (F_X0_findRest_61 K q σ (some b) (Int32.ofNat j) (Int32.ofNat i)) (xrs_ b H ρ o) := by
  have s0 := ag_sk A
  intro m
  induction m with
  | zero =>
    intro i q hi hq hf
    obtain ⟨q, rfl⟩ : ∃ z, q = z + 1 := ⟨q - 1, by omega⟩
    unfold F_X0_findRest_61
    rw [if_pos ((nu_ofle (by omega) (by omega)).mpr (by omega)), nl_ar_1]
    exact hK hf.symm
  | succ m ih =>
    intro i q hi hq hf
    obtain ⟨q, rfl⟩ : ∃ z, q = z + 1 := ⟨q - 1, by omega⟩
    unfold F_X0_findRest_61
    rw [if_neg (fun z => by have := (nu_ofle (by omega) (by omega)).mp z; omega), ss_0 s0, pu_bs, fx_isLike s0 (by omega) hj (hH i) (hH j) (X i (by omega)) (X j (by omega)), pu_b2s]
    rw [fi_s] at hf
    by_cases c : sp_lb (H i) (H j) = true
    · rw [if_pos c] at hf ⊢
      rw [if_neg nu_10n, sp_23 s0, pu_bs, sp_24 (σ := ah_sI σ 23 b (Int32.ofNat i)) s0, pu_bs, hS i hf.symm, ← Int32.ofNat_sub j i (by omega)]
      have A2 : ag_ b [19] σ (ah_sI (ah_sI σ 23 b (Int32.ofNat i)) 24 b (Int32.ofNat (j - i))) := ag_wI (ag_wI (ag_rf _ s0) (fun _ => lb_fo (by decide) rfl (by decide))) (fun _ => lb_fo (by decide) rfl (by decide))
      refine pu_ret ⟨ag_tr A (ag_mo (by decide) A2), rfl, by show i ≤ 200; omega, ?_, ?_, xst_ag A2 s0 (by decide) (X i (by omega))⟩
      · rw [rw_fi_sI, if_neg (by decide), rw_fi_sI, if_pos rfl, if_pos rfl]
      · rw [rw_fi_sI, if_pos rfl, if_pos rfl]
    · rw [if_neg c] at hf ⊢
      rw [if_pos rfl, nl_ar_1]
      exact ih (i + 1) q (by omega) (by omega) hf
theorem lx_r27 {K : ah_S → Option Nat → Int32 → Option (Int32 × ah_S)} {Q : Int32 × ah_S → Prop} {j : Nat} {ρ : ah_S} {h1 : sp_H} (hj : j ≤ 200) (hv1 : sp_hw h1) (hQ : ∀ τ, ag_ b [5, 11, 13] ρ τ → rx_ τ b ga V G lw s n h1 → xst_ τ b j h1 → (∀ l, l < j * 37 → ah_ai τ (b + 23) l = ah_ai ρ (b + 23) l) → pu_ok (F_X0_findRest_61 K 1000 τ (some b) (Int32.ofNat j) 0) Q) : ∀ m i σ q h, i + m = n → m < q → sp_rn V G lw s m i h = h1 → ag_ b [5, 11] ρ σ → sk_ok ρ b → rx_ σ b ga V G lw s n h → pu_ok (F_X0_findRest_27 K q σ (some b) (Int32.ofNat j) (Int32.ofNat i)) Q := by
  intro m
  induction m with
  | zero =>
    intro i σ q h hi hq hh A r0 R
    obtain ⟨q, rfl⟩ : ∃ z, q = z + 1 := ⟨q - 1, by omega⟩
    have s0 := R.1.1
    have hn := R.2.1.2.1
    have hh : h = h1 := hh
    subst hh
    unfold F_X0_findRest_27
    simp only [si_21 s0, pu_bs, R.2.1.1]
    rw [if_pos (by rw [nu_ofle (by omega) (by omega)]; omega), ss_0 s0, pu_bs]
    refine pu_bind (fx_keepState s0 hj R.2.2.1) ?_
    rintro τ ⟨A2, X2, l2⟩
    refine hQ τ (ag_tr (ag_mo (by decide) A) (ag_mo (by decide) A2)) ⟨xk_ag A2 (by decide) R.1, xcm_ag A2 s0 (by decide) R.2.1, xh_ag A2 s0 m17 (by decide) R.2.2.1, hv1⟩ X2 (fun l hl => ?_)
    rw [l2 l hl, ag_ai A r0 (by decide) (by decide)]
  | succ m ih =>
    intro i σ q h hi hq hh A r0 R
    obtain ⟨q, rfl⟩ : ∃ z, q = z + 1 := ⟨q - 1, by omega⟩
    have s0 := R.1.1
    have hn := R.2.1.2.1
    unfold F_X0_findRest_27
    simp only [si_21 s0, pu_bs, R.2.1.1]
    rw [if_neg (by rw [nu_ofle (by omega) (by omega)]; omega)]
    simp only [sg_19 s0, sg_20 s0, hu_is s0 m17, al_22 s0 (show i < 30 by omega), R.2.1.2.2 i (by omega), pu_bs, nl_ar_1]
    refine pu_bind (fx_stp R _) ?_
    rintro υ ⟨A2, R2⟩
    exact ih (i + 1) υ q _ (by omega) (by omega) hh (ag_tr A A2) r0 R2
theorem lx_r18 (hv : sp_hw h) : ∀ m j σ q, j + m = 200 → m < q → rx_ σ b ga V G lw s n (sp_hq V G lw s n h j) → (∀ i, i ≤ j → xst_ σ b i (sp_hq V G lw s n h i)) → pu_ok (F_X0_findRest_18 q σ (some b) (Int32.ofNat (j + 1))) (xrs_ b (sp_hq V G lw s n h) σ (sp_fo (sp_hq V G lw s n h) m (j + 1))) := by
  intro m
  induction m with
  | zero =>
    intro j σ q hj hq R X
    obtain ⟨q, rfl⟩ : ∃ z, q = z + 1 := ⟨q - 1, by omega⟩
    unfold F_X0_findRest_18
    rw [if_pos ((nl_lt_200 (by omega)).mpr (by omega))]
    exact pu_ret ⟨ag_rf _ R.1.1, rfl⟩
  | succ m ih =>
    intro j σ q hj hq R X
    obtain ⟨q, rfl⟩ : ∃ z, q = z + 1 := ⟨q - 1, by omega⟩
    have s0 := R.1.1
    have hn := R.2.1.2.1
    have hv1 := hq_hv (lw := lw) (s := s) (n := n) R.1.2.2.2 R.1.2.1.1 hv
    unfold F_X0_findRest_18
    rw [if_neg (fun z => by have := (nl_lt_200 (by omega)).mp z; omega)]
    refine lx_r27 (h1 := sp_hq V G lw s n h (j + 1)) (by omega) (hv1 _) (fun τ A R' X' l' => ?_) n 0 σ 1000 _ (by omega) (by omega) rfl (ag_rf _ s0) s0 R
    have XX : ∀ i, i ≤ j + 1 → xst_ τ b i (sp_hq V G lw s n h i) := fun i hi => by
      by_cases z : i = j + 1
      · rw [z]; exact X'
      · have old := X i (by omega)
        have e : ∀ l, l < (j + 1) * 37 → ah_ai τ (b + 23) l = ah_ai σ (b + 23) l := l'
        obtain ⟨o1, o2, mm, o3, o4, o5⟩ := old
        refine ⟨fun t ht => ⟨?_, ?_⟩, fun k hk => ?_, mm, o3, ?_, o5⟩
        · rw [e _ (by omega)]; exact (o1 t ht).1
        · rw [e _ (by omega)]; exact (o1 t ht).2
        · rw [e _ (by omega)]; exact o2 k hk
        · rw [e _ (by omega)]; exact o4
    have hfo : sp_fo (sp_hq V G lw s n h) (m + 1) (j + 1) = match sp_fi (sp_hq V G lw s n h) (j + 1) (j + 1) 0 with
      | some i => some (i, j + 1)
      | none => sp_fo (sp_hq V G lw s n h) m (j + 1 + 1) := rfl
    refine lx_r61 (ρ := σ) (by omega) hv1 (ag_mo (by decide) A) XX (fun hn0 => ?_) (fun i hi0 => ?_) (j + 1) 0 1000 (by omega) (by omega) rfl
    · rw [hfo, hn0]
      refine pu_mono (ih (j + 1) τ q (by omega) (by omega) R' XX) (fun r hr => ⟨ag_tr (ag_mo (by decide) A) hr.1, hr.2⟩)
    · rw [hfo, hi0]
theorem fx_findRest (hv : sp_hw h) (hx : xk_ σ b ga V G lw) (hc : xcm_ σ b G s n) (H : xh_ σ b 12 h) : pu_ok (F_X0_findRest σ (some b)) (xrs_ b (sp_hq V G lw s n h) σ (sp_fo (sp_hq V G lw s n h) 200 1)) := by
  have s0 := hx.1
  unfold F_X0_findRest
  simp only [sg_19 s0, sg_18 s0, hu_is s0 m17, pu_bs]
  refine pu_bind (fx_beAs s0 m17 m12 (by decide) hv H) ?_
  rintro υ ⟨A2, H2⟩
  have A2 : ag_ b [5] σ υ := A2
  have s2 := ag_sk A2
  rw [ss_0 s2, pu_bs]
  refine pu_bind (fx_keepState (j := 0) s2 (by omega) H2) ?_
  rintro τ ⟨A3, X3, -⟩
  have s3 := ag_sk A3
  refine pu_mono (lx_r18 hv 200 0 τ 1000 (by omega) (by omega) ⟨xk_ag A3 (by decide) (xk_ag A2 (by decide) hx), xcm_ag A3 s2 (by decide) (xcm_ag A2 s0 (by decide) hc), xh_ag A3 s2 m17 (by decide) H2, hv⟩ (fun i hi => by rw [show i = 0 by omega]; exact X3)) (fun r hr => ⟨ag_tr (ag_mo (by decide) A2) (ag_tr (ag_mo (by decide) A3) hr.1), hr.2⟩)
/-! the model's -/
def mrs_ (σ : ah_S) (b j : Nat) (h : sp_H) : Prop := ∀ i, i < 48 → ah_ai σ (b + 147) (48 * j + i) = h i
theorem fm_isAs {j : Nat} {h' : sp_H} (s0 : sk_ok σ b) (hj : j ≤ 200) (X : mrs_ σ b j h) (H : mh_ σ b 130 h') : F_X6_isAs σ (some (b + 123)) (Int32.ofNat j) = some (if sp_lb h h' = true then 1 else 0, σ) := by
  have key : ∀ m k q, k + m = 48 → m < q → (∀ l, l < k → (8 ≤ l ∧ l ≤ 12) ∨ h l = h' l) → F_X6_isAs_2 q σ (some (b + 123)) (Int32.ofNat j) (Int32.ofNat k) = some (if sp_lb h h' = true then 1 else 0, σ) := by
    intro m
    induction m with
    | zero =>
      intro k q hk hq E
      obtain ⟨q, rfl⟩ : ∃ z, q = z + 1 := ⟨q - 1, by omega⟩
      unfold F_X6_isAs_2
      rw [if_pos ((nl_le_48 (by omega)).mpr (by omega)), if_pos (lb_iff.mpr (fun l hl => E l (by omega)))]
    | succ m ih =>
      intro k q hk hq E
      obtain ⟨q, rfl⟩ : ∃ z, q = z + 1 := ⟨q - 1, by omega⟩
      have cmp : ¬ (8 ≤ k ∧ k ≤ 12) → F_X6_isAs_23 (F_X6_isAs_2 q) σ (some (b + 123)) (Int32.ofNat j) (Int32.ofNat k) = some (if sp_lb h h' = true then 1 else 0, σ) := fun nc => by
        unfold F_X6_isAs_23
        simp only [sg_637 s0, sg_611 s0, pu_bs, nl_mu_48, nl_aa, al_147 s0 (show 48 * j + k < 9648 by omega), X k (show k < 48 by omega), al_130 s0 (show k < 48 by omega), H k (show k < 48 by omega), nl_ar_1]
        by_cases c : h k = h' k
        · rw [if_pos c]
          refine ih (k + 1) q (by omega) (by omega) (fun l hl => ?_)
          by_cases z : l = k
          · rw [z]; exact Or.inr c
          · exact E l (by omega)
        · rw [if_neg c, if_neg (fun z => c ((lb_iff.mp z k (by omega)).resolve_left nc))]
      unfold F_X6_isAs_2
      rw [if_neg (fun z => by have := (nl_le_48 (by omega)).mp z; omega)]
      by_cases c1 : k < 8
      · rw [if_pos ((nl_gt_8 (by omega)).mpr c1)]; exact cmp (by omega)
      · rw [if_neg (fun z => c1 ((nl_gt_8 (by omega)).mp z))]
        by_cases c2 : 12 < k
        · rw [if_pos ((nl_lt_12 (by omega)).mpr c2)]; exact cmp (by omega)
        · rw [if_neg (fun z => c2 ((nl_lt_12 (by omega)).mp z)), nl_ar_1]
          refine ih (k + 1) q (by omega) (by omega) (fun l hl => ?_)
          by_cases z : l = k
          · rw [z]; exact Or.inl ⟨by omega, by omega⟩
          · exact E l (by omega)
  exact key 48 0 1000 (by omega) (by omega) (fun l hl => absurd hl (Nat.not_lt_zero _))
theorem lm_r144 {K : ah_S → Option Nat → Int32 → Int32 → Int32 → Int32 → Option (Int32 × ah_S)} {Q : Int32 × ah_S → Prop} {x2 x3 x4 : Int32} {j : Nat} {k h1 : sp_H} {ρ : ah_S} (hQ : ∀ τ, ag_ b [24, 25, 54, 55] ρ τ → rm_ τ b V G lw s n k h1 → pu_ok (K τ (some (b + 123)) x2 x3 x4 (Int32.ofNat (j + 1))) Q) : ∀ m i σ q h, i + m = n → m < q → sp_rn V G lw s m i h = h1 → ag_ b [24, 25, 54, 55] ρ σ → rm_ σ b V G lw s n k h → pu_ok (F_X6_rest_144 K q σ (some (b + 123)) x2 x3 x4 (Int32.ofNat j) (Int32.ofNat i)) Q := by
  intro m
  induction m with
  | zero =>
    intro i σ q h hi hq hh A R
    obtain ⟨q, rfl⟩ : ∃ z, q = z + 1 := ⟨q - 1, by omega⟩
    have s0 := R.1.1
    have hn := R.2.1.2.1
    have hh : h = h1 := hh
    subst hh
    unfold F_X6_rest_144
    simp only [si_636 s0, pu_bs, R.2.1.1]
    rw [if_pos (by rw [nu_ofle (by omega) (by omega)]; omega), nl_ar_1]
    exact hQ σ A R
  | succ m ih =>
    intro i σ q h hi hq hh A R
    obtain ⟨q, rfl⟩ : ∃ z, q = z + 1 := ⟨q - 1, by omega⟩
    have s0 := R.1.1
    have hn := R.2.1.2.1
    unfold F_X6_rest_144
    simp only [si_636 s0, pu_bs, R.2.1.1]
    rw [if_neg (by rw [nu_ofle (by omega) (by omega)]; omega)]
    simp only [sg_635 s0, ss_123 s0, al_146 s0 (show i < 30 by omega), R.2.1.2.2 i (by omega), pu_bs, nl_ar_1]
    refine pu_bind (fm_stp R _) ?_
    rintro υ ⟨A2, R2⟩
    exact ih (i + 1) υ q _ (by omega) (by omega) hh (ag_tr A A2) R2
theorem mrs_ag {L : List Nat} {τ : ah_S} {j : Nat} (A : ag_ b L σ τ) (h0 : sk_ok σ b) (hl : 33 ∉ L) (X : mrs_ σ b j h) : mrs_ τ b j h := fun i hi => by rw [ag_ai A h0 (by decide) (by exact hl)]; exact X i hi
theorem lm_r176 {w i r : Nat} {k h' : sp_H} {H : Nat → sp_H} (hw : w ≤ 5) (hi : i ≤ 200) (R : rm_ σ b V G lw s n k h') (X : mrs_ σ b i (H i)) (j : Nat) (hr : r = j - i) (hr2 : r < 2147483648) : pu_ok (F_X6_rest_176 σ (some (b + 123)) (Int32.ofNat w) (Int32.ofNat i) (Int32.ofNat r)) (fun z => z.1 = sp_ra H w (some (i, j)) ∧ ag_ b [24, 25, 33, 54, 55] σ z.2 ∧ mh_ z.2 b 130 k) := by
  have s0 := R.1.1
  unfold F_X6_rest_176
  rw [ra_so, ss_123 s0, pu_bs]
  refine pu_bind (fm_layHut s0 R.2.2.1) ?_
  rintro τ ⟨A, Hh⟩
  have sτ := ag_sk A
  have A' : ag_ b [24, 25, 33, 54, 55] σ τ := ag_mo (by decide) A
  rw [if_pos ((nl_le_0 (by omega)).mpr (by omega))]
  by_cases c : w = 0
  · rw [if_pos (by rw [c]; rfl), if_pos c]; exact pu_ret ⟨rfl, A', Hh⟩
  rw [if_neg (fun z => c ((nl_eq_0 (by omega)).mp z)), if_neg c]
  by_cases c1 : w = 1
  · rw [if_pos (by rw [c1]; rfl), if_pos c1, hr]; exact pu_ret ⟨rfl, A', Hh⟩
  rw [if_neg (fun z => c1 ((nl_eq_1 (by omega)).mp z)), if_neg c1, sg_637 sτ, pu_bs, nl_mu_48, nl_aa, show Int32.ofNat (48 * i + w) - 2 = Int32.ofNat (48 * i + (w - 2)) by
    rw [show 48 * i + w = 48 * i + (w - 2) + 2 by omega, Int32.ofNat_add (48 * i + (w - 2)) 2]; exact Int32.add_sub_cancel _ _, al_147 sτ (by omega), pu_bs, mrs_ag A s0 (by decide) X (w - 2) (by omega)]
  exact pu_ret ⟨rfl, A', Hh⟩
theorem lm_r51 {w : Nat} {k : sp_H} (hw : w ≤ 5) (hr : sp_rg G V) (hv : sp_hw h) : ∀ m j σ q, j + m = 201 → m < q → rm_ σ b V G lw s n k (sp_hq V G lw s n h j) → (∀ i, i < j → mrs_ σ b i (sp_hq V G lw s n h i)) → pu_ok (F_X6_rest_51 q σ (some (b + 123)) (Int32.ofNat w) (-2) (-2) (Int32.ofNat j)) (fun z => z.1 = sp_ra (sp_hq V G lw s n h) w (sp_fo (sp_hq V G lw s n h) m j) ∧ ag_ b [24, 25, 33, 54, 55] σ z.2 ∧ mh_ z.2 b 130 k) := by
  intro m
  induction m with
  | zero =>
    intro j σ q hj hq R X
    obtain ⟨q, rfl⟩ : ∃ z, q = z + 1 := ⟨q - 1, by omega⟩
    have s0 := R.1.1
    unfold F_X6_rest_51 F_X6_rest_176
    rw [if_pos ((nl_lt_200 (by omega)).mpr (by omega)), ss_123 s0, pu_bs]
    refine pu_bind (fm_layHut s0 R.2.2.1) ?_
    rintro τ ⟨A, Hh⟩
    rw [if_neg (by decide)]
    exact pu_ret ⟨rfl, ag_mo (by decide) A, Hh⟩
  | succ m ih =>
    intro j σ q hj hq R X
    obtain ⟨q, rfl⟩ : ∃ z, q = z + 1 := ⟨q - 1, by omega⟩
    have s0 := R.1.1
    have hn := R.2.1.2.1
    unfold F_X6_rest_51
    rw [if_neg (fun z => by have := (nl_lt_200 (by omega)).mp z; omega), if_neg (by decide)]
    have hfo : sp_fo (sp_hq V G lw s n h) (m + 1) j = match sp_fi (sp_hq V G lw s n h) j j 0 with
      | some i => some (i, j)
      | none => sp_fo (sp_hq V G lw s n h) m (j + 1) := rfl
    have k102 : ∀ τ, ag_ b [33] σ τ → (∀ i, i ≤ j → mrs_ τ b i (sp_hq V G lw s n h i)) → ∀ m' i q', i + m' = j → m' < q' → sp_fi (sp_hq V G lw s n h) j m' i = sp_fi (sp_hq V G lw s n h) j j 0 → pu_ok (F_X6_rest_102 (F_X6_rest_51 q) q' τ (some (b + 123)) (Int32.ofNat w) (-2) (-2) (Int32.ofNat j) (Int32.ofNat i)) (fun z => z.1 = sp_ra (sp_hq V G lw s n h) w (sp_fo (sp_hq V G lw s n h) (m + 1) j) ∧ ag_ b [24, 25, 33, 54, 55] σ z.2 ∧ mh_ z.2 b 130 k) := by
      intro τ A X'
      have sτ := ag_sk A
      have Rτ : rm_ τ b V G lw s n k (sp_hq V G lw s n h j) := ⟨mk_ag A (by decide) R.1, mst_ag A s0 (by decide) R.2.1, mh_ag A s0 (by decide) (by decide) R.2.2.1, mh_ag A s0 (by decide) (by decide) R.2.2.2⟩
      intro m'
      induction m' with
      | zero =>
        intro i q' hi hq' hf
        obtain ⟨q', rfl⟩ : ∃ z, q' = z + 1 := ⟨q' - 1, by omega⟩
        unfold F_X6_rest_102
        rw [if_pos ((nu_ofle (by omega) (by omega)).mpr (by omega))]
        refine lm_r144 (h1 := sp_hq V G lw s n h (j + 1)) (ρ := τ) (fun υ A2 R2 => ?_) n 0 τ 1000 _ (by omega) (by omega) rfl (ag_rf _ sτ) Rτ
        rw [hfo, show sp_fi (sp_hq V G lw s n h) j j 0 = none from hf.symm]
        exact pu_mono (ih (j + 1) υ q (by omega) (by omega) R2 (fun i hi => mrs_ag A2 sτ (by decide) (X' i (by omega)))) (fun z hz => ⟨hz.1, ag_tr (ag_mo (by decide) A) (ag_tr (ag_mo (by decide) A2) hz.2.1), hz.2.2⟩)
      | succ m' ihm =>
        intro i q' hi hq' hf
        obtain ⟨q', rfl⟩ : ∃ z, q' = z + 1 := ⟨q' - 1, by omega⟩
        unfold F_X6_rest_102
        rw [if_neg (fun z => by have := (nu_ofle (by omega) (by omega)).mp z; omega), if_neg (by decide), ss_123 sτ, pu_bs, fm_isAs sτ (by omega) (X' i (by omega)) Rτ.2.2.2, pu_b2s]
        rw [fi_s] at hf
        by_cases c : sp_lb (sp_hq V G lw s n h i) (sp_hq V G lw s n h j) = true
        · rw [if_pos c] at hf ⊢
          rw [if_neg nu_10n, nl_ar_1, ← Int32.ofNat_sub j i (by omega), hfo, ← hf]
          obtain ⟨q', rfl⟩ : ∃ z, q' = z + 1 := ⟨q' - 1, by omega⟩
          have fin : pu_ok (F_X6_rest_144 (F_X6_rest_51 q) 1000 τ (some (b + 123)) (Int32.ofNat w) (Int32.ofNat i) (Int32.ofNat (j - i)) (Int32.ofNat j) 0) (fun z => z.1 = sp_ra (sp_hq V G lw s n h) w (some (i, j)) ∧ ag_ b [24, 25, 33, 54, 55] σ z.2 ∧ mh_ z.2 b 130 k) := by
            refine lm_r144 (h1 := sp_hq V G lw s n h (j + 1)) (ρ := τ) (fun υ A2 R2 => ?_) n 0 τ 1000 _ (by omega) (by omega) rfl (ag_rf _ sτ) Rτ
            obtain ⟨q, rfl⟩ : ∃ z, q = z + 1 := ⟨q - 1, by omega⟩
            have last := lm_r176 (H := sp_hq V G lw s n h) hw (show i ≤ 200 by omega) R2 (mrs_ag A2 sτ (by decide) (X' i (by omega))) j rfl (by omega)
            have last' := pu_mono last (fun z hz => (⟨hz.1, ag_tr (ag_mo (by decide) A) (ag_tr (ag_mo (by decide) A2) hz.2.1), hz.2.2⟩ : z.1 = sp_ra (sp_hq V G lw s n h) w (some (i, j)) ∧ ag_ b [24, 25, 33, 54, 55] σ z.2 ∧ mh_ z.2 b 130 k))
            unfold F_X6_rest_51
            by_cases c2 : (200 : Int32) < Int32.ofNat (j + 1)
            · rw [if_pos c2]; exact last'
            · rw [if_neg c2, if_pos ((nl_le_0 (by omega)).mpr (by omega))]; exact last'
          unfold F_X6_rest_102
          by_cases c2 : Int32.ofNat j ≤ Int32.ofNat (i + 1)
          · rw [if_pos c2]; exact fin
          · rw [if_neg c2, if_pos ((nl_le_0 (by omega)).mpr (by omega))]; exact fin
        · rw [if_neg c] at hf ⊢
          rw [if_pos rfl, nl_ar_1]
          exact ihm (i + 1) q' (by omega) (by omega) hf
    have k66 : ∀ m' i τ q', i + m' = 48 → m' < q' → ag_ b [33] σ τ → (∀ l, l < i → ah_ai τ (b + 147) (48 * j + l) = sp_hq V G lw s n h j l) → (∀ l, l < 48 * j → ah_ai τ (b + 147) l = ah_ai σ (b + 147) l) → pu_ok (F_X6_rest_66 (F_X6_rest_51 q) q' τ (some (b + 123)) (Int32.ofNat w) (-2) (-2) (Int32.ofNat j) (Int32.ofNat i)) (fun z => z.1 = sp_ra (sp_hq V G lw s n h) w (sp_fo (sp_hq V G lw s n h) (m + 1) j) ∧ ag_ b [24, 25, 33, 54, 55] σ z.2 ∧ mh_ z.2 b 130 k) := by
      intro m'
      induction m' with
      | zero =>
        intro i τ q' hi hq' A i1 i2
        obtain ⟨q', rfl⟩ : ∃ z, q' = z + 1 := ⟨q' - 1, by omega⟩
        unfold F_X6_rest_66
        rw [if_pos ((nl_le_48 (by omega)).mpr (by omega))]
        refine k102 τ A (fun l hl => ?_) j 0 1000 (by omega) (by omega) rfl
        by_cases z : l = j
        · rw [z]; exact fun i' hi' => i1 i' (by omega)
        · intro i' hi'
          rw [i2 _ (by omega)]; exact X l (by omega) i' hi'
      | succ m' ihm =>
        intro i τ q' hi hq' A i1 i2
        obtain ⟨q', rfl⟩ : ∃ z, q' = z + 1 := ⟨q' - 1, by omega⟩
        have sτ := ag_sk A
        have e1 : ah_ai τ (b + 130) i = sp_hq V G lw s n h j i := by rw [ag_ai A s0 (by decide) (by decide)]; exact R.2.2.2 i (by omega)
        unfold F_X6_rest_66
        rw [if_neg (fun z => by have := (nl_le_48 (by omega)).mp z; omega)]
        simp only [sg_637 sτ, sg_611 sτ, pu_bs, al_130 sτ (show i < 48 by omega), e1, nl_mu_48, nl_aa, aw_147 sτ (show 48 * j + i < 9648 by omega), nl_ar_1]
        refine ihm (i + 1) _ q' (by omega) (by omega) (ag_wA A (fun _ => lb_sc (by decide) rfl (by decide))) (fun l hl => ?_) (fun l hl => ?_)
        · rw [rw_ai_sA, if_pos rfl]
          by_cases z : l = i
          · rw [if_pos (by omega), z]
          · rw [if_neg (by omega)]; exact i1 l (by omega)
        · rw [rw_ai_sA, if_pos rfl, if_neg (by omega)]; exact i2 l hl
    exact k66 48 0 σ 1000 (by omega) (by omega) (ag_rf _ s0) (fun l hl => absurd hl (Nat.not_lt_zero _)) (fun _ _ => rfl)
end
