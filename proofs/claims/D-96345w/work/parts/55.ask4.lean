/-! ===== questions: warden, drawn, judge ===== -/
/-- the levels laid as they ought to be -/
def sp_ow (V : sp_V) (h : sp_H) : sp_H := fun i => if i < 4 then V 0 i else h i
def sp_ot (V : sp_V) (h : sp_H) (t : Nat) : sp_H := fun i => if i < t then V 0 i else h i
def sp_wc (V : sp_V) (G : Nat) (lw : sp_W) (s : Nat → Int32) (n m : Nat) : Nat → Nat → sp_H → Int32 → Int32
  | 0, _, _, x => x
  | j + 1, i, h, x => if m = 0 ∨ (i + 1) % m ≠ 0 then sp_wc V G lw s n m j (i + 1) (sp_go V G lw (sp_at s n i) h) (x + sp_ls V (sp_go V G lw (sp_at s n i) h)) else sp_wc V G lw s n m j (i + 1) (sp_ow V (sp_go V G lw (sp_at s n i) h)) ((x + sp_ls V (sp_go V G lw (sp_at s n i) h)) + V 7 0)
section
variable {σ : ah_S} {b nb G : Nat} {ga ra ba kd : Nat → Nat} {hd : Nat → Int32} {sz : Nat → Nat} {el : sp_E} {V : sp_V} {lw : sp_W} {h : sp_H} {s : Nat → Int32} {n : Nat}
theorem sp_hwo (hr : sp_rg G V) (hv : sp_hw h) : sp_hw (sp_ow V h) := by
  obtain ⟨v1, v2, v3, v4⟩ := hv
  refine ⟨v1, fun g hg => ?_, fun g t hg ht => ?_, fun i hi => ?_⟩
  · unfold sp_ow; rw [if_neg (by omega)]; exact v2 g hg
  · unfold sp_ow; rw [if_neg (by omega), if_neg (by omega)]; exact v3 g t hg ht
  · unfold sp_ow
    by_cases c : i < 4
    · rw [if_pos c]; exact hr 0 i (Or.inl ⟨by omega, c⟩)
    · rw [if_neg c]; exact v4 i hi
theorem lx_ow {K : ah_S → Option Nat → Int32 → Int32 → Int32 → Option (Int32 × ah_S)} {Q : Int32 × ah_S → Prop} {x1 x2 x3 : Int32} {ρ : ah_S} (hx : xk_ ρ b ga V G lw) (hK : ∀ τ, ag_ b [5, 11] ρ τ → xh_ τ b 17 (sp_ow V h) → pu_ok (K τ (some b) x1 x2 (x3 + 1)) Q) : ∀ m t σ q, t + m = 4 → m < q → ag_ b [5, 11] ρ σ → xh_ σ b 17 (sp_ot V h t) → pu_ok (F_X0_wardenCost_72 K q σ (some b) x1 x2 x3 (Int32.ofNat t)) Q := by
  intro m
  induction m with
  | zero =>
    intro t σ q ht hq A H
    obtain ⟨q, rfl⟩ : ∃ z, q = z + 1 := ⟨q - 1, by omega⟩
    have : t = 4 := by omega
    subst this
    unfold F_X0_wardenCost_72
    rw [if_pos (by decide)]
    exact hK σ A H
  | succ m ih =>
    intro t σ q ht hq A H
    obtain ⟨q, rfl⟩ : ∃ z, q = z + 1 := ⟨q - 1, by omega⟩
    have h4 : t < 4 := by omega
    have s0 := ag_sk A
    have hxσ := xk_ag A (by decide) hx
    obtain ⟨t1, -⟩ := xp_th s0 hxσ.2.1
    obtain ⟨u1, u2, -⟩ := t1 t h4
    unfold F_X0_wardenCost_72
    rw [if_neg (fun z => by have := (nl_le_4 (by omega)).mp z; omega)]
    simp only [sg_19 s0, hu_400 s0 m17, sg_9 s0, u1, u2, hu_w1 s0 m17 h4, pu_bs, nl_ar_1]
    obtain ⟨H1, H2, H3, H4, H5, H6⟩ := H
    refine ih (t + 1) _ q (by omega) (by omega) (ag_wA A (fun _ => lb_sc (by decide) rfl (by decide))) ⟨fun j hj => ?_, fun j hj => ?_, ?_, fun hs j hj => ?_, ?_, fun g j hg hj hs => ?_⟩
    · rw [rw_ai_sA, if_pos rfl]
      unfold sp_ot at H1 ⊢
      by_cases e : j = t
      · rw [if_pos e, if_pos (by omega), e]
      · rw [if_neg e, H1 j hj]
        by_cases c : j < t
        · rw [if_pos c, if_pos (by omega)]
        · rw [if_neg c, if_neg (by omega)]
    · rw [rw_ai_sA, if_neg (by omega), H2 j hj]
      unfold sp_ot
      rw [if_neg (by omega), if_neg (by omega)]
    · rw [rw_fi_sA, H3]
      unfold sp_ot
      rw [if_neg (by omega), if_neg (by omega)]
    · rw [rw_ai_sA, if_neg (by omega)]
      unfold sp_ot at hs H4 ⊢
      rw [if_neg (by omega)] at hs ⊢
      have := H4 (by rw [if_neg (by omega)]; exact hs) j hj
      rw [if_neg (by omega)] at this
      exact this
    · obtain ⟨n, n1, n2, n3⟩ := H5
      refine ⟨n, n1, n2, fun g hg => ?_⟩
      have := n3 g hg
      unfold sp_ot at this ⊢
      rw [if_neg (by omega)] at this ⊢
      exact this
    · rw [rw_ai_sA, if_neg (by omega)]
      unfold sp_ot at hs H6 ⊢
      rw [if_neg (by omega)] at hs ⊢
      have := H6 g j hg hj (by rw [if_neg (by omega)]; exact hs)
      rw [if_neg (by omega)] at this
      exact this
theorem lm_ow {K : ah_S → Option Nat → Int32 → Int32 → Int32 → Option (Int32 × ah_S)} {Q : Int32 × ah_S → Prop} {x1 x2 x3 : Int32} {ρ : ah_S} (hx : mk_ ρ b V G lw) (hK : ∀ τ, ag_ b [24] ρ τ → mh_ τ b 130 (sp_ow V h) → pu_ok (K τ (some (b + 123)) x1 x2 (x3 + 1)) Q) : ∀ m t σ q, t + m = 4 → m < q → ag_ b [24] ρ σ → mh_ σ b 130 (sp_ot V h t) → pu_ok (F_X6_wardenCost_55 K q σ (some (b + 123)) x1 x2 x3 (Int32.ofNat t)) Q := by
  intro m
  induction m with
  | zero =>
    intro t σ q ht hq A H
    obtain ⟨q, rfl⟩ : ∃ z, q = z + 1 := ⟨q - 1, by omega⟩
    have : t = 4 := by omega
    subst this
    unfold F_X6_wardenCost_55
    rw [if_pos (by decide)]
    exact hK σ A H
  | succ m ih =>
    intro t σ q ht hq A H
    obtain ⟨q, rfl⟩ : ∃ z, q = z + 1 := ⟨q - 1, by omega⟩
    have h4 : t < 4 := by omega
    have s0 := ag_sk A
    have hxσ := mk_ag A (by decide) hx
    unfold F_X6_wardenCost_55
    rw [if_neg (fun z => by have := (nl_le_4 (by omega)).mp z; omega)]
    simp only [sg_611 s0, sg_601 s0, al_124 s0 h4, hxσ.2.2.1.2.1 t h4, aw_130 s0 (show t < 48 by omega), pu_bs, nl_ar_1]
    refine ih (t + 1) _ q (by omega) (by omega) (ag_wA A (fun _ => lb_sc (by decide) rfl (by decide))) (fun i hi => ?_)
    rw [rw_ai_sA, if_pos rfl]
    have := H i hi
    unfold sp_ot at this ⊢
    by_cases e : i = t
    · rw [if_pos e, if_pos (by omega), e]
    · rw [if_neg e, this]
      by_cases c : i < t
      · rw [if_pos c, if_pos (by omega)]
      · rw [if_neg c, if_neg (by omega)]
theorem lx_ward {m : Nat} {x1 : Int32} (hm : m < 100) (h1 : (m = 0 ∧ x1 = -1) ∨ (m ≠ 0 ∧ x1 = Int32.ofNat m)) : ∀ j i σ q h x, i + j = 60 → j < q → rx_ σ b ga V G lw s n h → pu_ok (F_X0_wardenCost_15 q σ (some b) x1 x (Int32.ofNat i)) (fun z => z.1 = sp_wc V G lw s n m j i h x ∧ ag_ b [5, 11] σ z.2) := by
  intro j
  induction j with
  | zero =>
    intro i σ q h x hi hq R
    obtain ⟨q, rfl⟩ : ∃ z, q = z + 1 := ⟨q - 1, by omega⟩
    have s0 := R.1.1
    have hn := R.2.1.2.1
    unfold F_X0_wardenCost_15
    rw [if_pos ((nl_le_60 (by omega)).mpr (by omega))]
    exact pu_ret ⟨rfl, ag_rf _ s0⟩
  | succ j ih =>
    intro i σ q h x hi hq R
    obtain ⟨q, rfl⟩ : ∃ z, q = z + 1 := ⟨q - 1, by omega⟩
    have s0 := R.1.1
    have hn := R.2.1.2.1
    unfold F_X0_wardenCost_15
    rw [if_neg (fun z => by have := (nl_le_60 (by omega)).mp z; omega)]
    simp only [sg_19 s0, ss_0 s0, pu_bs, fx_comesAt R (show i < 1000 by omega), pu_b2s, hu_is s0 m17, nl_ar_1]
    refine pu_bind (fx_stp R _) ?_
    rintro υ ⟨A, R⟩
    have s1 := R.1.1
    simp only [sg_19 s1, hu_is s1 m17, pu_bs, fx_loss s1 R.1.2.1 R.1.2.2.2 m17 R.2.2.2 R.2.2.1, pu_b2s]
    unfold sp_wc
    rcases h1 with ⟨m0, rfl⟩ | ⟨m0, rfl⟩
    · rw [if_pos rfl, if_pos (Or.inl m0)]
      exact pu_mono (ih (i + 1) υ q _ _ (by omega) (by omega) R) (fun z hz => ⟨hz.1, ag_tr A hz.2⟩)
    · rw [if_neg (nu_ne1 (by omega))]
      simp only [nu_re (show i + 1 < 2147483648 by omega) (show m < 2147483648 by omega) (by omega), pu_bs]
      by_cases c : (i + 1) % m = 0
      · rw [if_pos (by rw [c]; rfl), if_neg (by rintro (q | q); exact m0 q; exact q c)]
        obtain ⟨-, -, t3, -⟩ := xp_th s1 R.1.2.1
        simp only [sg_12 s1, pu_bs, t3]
        refine lx_ow (ρ := υ) R.1 (fun τ Aτ Hτ => ?_) 4 0 υ 1000 (by omega) (by omega) (ag_rf _ s1) R.2.2.1
        rw [nl_ar_1]
        exact pu_mono (ih (i + 1) τ q _ _ (by omega) (by omega) ⟨xk_ag Aτ (by decide) R.1, xcm_ag Aτ s1 (by decide) R.2.1, Hτ, sp_hwo R.1.2.2.2 R.2.2.2⟩) (fun z hz => ⟨hz.1, ag_tr A (ag_tr Aτ hz.2)⟩)
      · rw [if_neg (fun z => c ((nl_eq_0 (Nat.lt_of_lt_of_le (Nat.mod_lt _ (by omega)) (by omega))).mp z)), if_pos (Or.inr c)]
        exact pu_mono (ih (i + 1) υ q _ _ (by omega) (by omega) R) (fun z hz => ⟨hz.1, ag_tr A hz.2⟩)
theorem lm_ward {k : sp_H} {m : Nat} (hm : m < 100) : ∀ j i σ q h x, i + j = 60 → j < q → rm_ σ b V G lw s n k h → pu_ok (F_X6_wardenCost_8 q σ (some (b + 123)) (Int32.ofNat m) x (Int32.ofNat i)) (fun z => z.1 = sp_wc V G lw s n m j i h x ∧ ag_ b [24, 25, 54, 55] σ z.2 ∧ mh_ z.2 b 130 k) := by
  intro j
  induction j with
  | zero =>
    intro i σ q h x hi hq R
    obtain ⟨q, rfl⟩ : ∃ z, q = z + 1 := ⟨q - 1, by omega⟩
    have s0 := R.1.1
    have hn := R.2.1.2.1
    unfold F_X6_wardenCost_8
    rw [if_pos ((nl_le_60 (by omega)).mpr (by omega))]
    simp only [ss_123 s0, pu_bs]
    exact fm_end R _
  | succ j ih =>
    intro i σ q h x hi hq R
    obtain ⟨q, rfl⟩ : ∃ z, q = z + 1 := ⟨q - 1, by omega⟩
    have s0 := R.1.1
    have hn := R.2.1.2.1
    unfold F_X6_wardenCost_8
    rw [if_neg (fun z => by have := (nl_le_60 (by omega)).mp z; omega)]
    simp only [ss_123 s0, pu_bs, fm_againAt R (show i < 1000 by omega), pu_b2s, nl_ar_1]
    refine pu_bind (fm_stp R _) ?_
    rintro υ ⟨A, R⟩
    have s1 := R.1.1
    simp only [ss_123 s1, pu_bs, fm_loss s1 R.1.2.2.1 R.2.2.2, pu_b2s]
    unfold sp_wc
    by_cases m0 : m = 0
    · rw [if_pos (by rw [m0]; rfl), if_pos (Or.inl m0)]
      exact pu_mono (ih (i + 1) υ q _ _ (by omega) (by omega) R) (fun z hz => ⟨hz.1, ag_tr A hz.2.1, hz.2.2⟩)
    · rw [if_neg (fun z => m0 ((nl_eq_0 (by omega)).mp z))]
      simp only [nu_re (show i + 1 < 2147483648 by omega) (show m < 2147483648 by omega) (by omega), pu_bs]
      by_cases c : (i + 1) % m = 0
      · rw [if_pos (by rw [c]; rfl), if_neg (by rintro (q | q); exact m0 q; exact q c)]
        simp only [si_609 s1, pu_bs, R.1.2.2.1.2.2.2.2.2.2.2.2.1]
        refine lm_ow (ρ := υ) R.1 (fun τ Aτ Hτ => ?_) 4 0 υ 1000 (by omega) (by omega) (ag_rf _ s1) R.2.2.2
        rw [nl_ar_1]
        exact pu_mono (ih (i + 1) τ q _ _ (by omega) (by omega) ⟨mk_ag Aτ (by decide) R.1, mst_ag Aτ s1 (by decide) R.2.1, mh_ag Aτ s1 (by decide) (by decide) R.2.2.1, Hτ⟩) (fun z hz => ⟨hz.1, ag_tr A (ag_tr (ag_mo (by decide) Aτ) hz.2.1), hz.2.2⟩)
      · rw [if_neg (fun z => c ((nl_eq_0 (Nat.lt_of_lt_of_le (Nat.mod_lt _ (by omega)) (by omega))).mp z)), if_pos (Or.inr c)]
        exact pu_mono (ih (i + 1) υ q _ _ (by omega) (by omega) R) (fun z hz => ⟨hz.1, ag_tr A hz.2.1, hz.2.2⟩)
theorem fx_ward {m : Nat} {x1 : Int32} (hm : m < 100) (h1 : (m = 0 ∧ x1 = -1) ∨ (m ≠ 0 ∧ x1 = Int32.ofNat m)) (hx : xk_ σ b ga V G lw) (hc : xcm_ σ b G s n) (H : xh_ σ b 12 h) (hv : sp_hw h) : pu_ok (F_X0_wardenCost σ (some b) x1) (fun z => z.1 = sp_wc V G lw s n m 60 0 h 0 ∧ ag_ b [5, 11] σ z.2) := by
  have s0 := hx.1
  unfold F_X0_wardenCost
  simp only [sg_19 s0, sg_18 s0, hu_is s0 m17, pu_bs]
  refine pu_bind (fx_beAs s0 m17 m12 (by decide) hv H) ?_
  rintro υ ⟨A2, H2⟩
  exact pu_mono (lx_ward hm h1 60 0 υ 1000 h 0 (by omega) (by omega) ⟨xk_ag A2 (by decide) hx, xcm_ag A2 s0 (by decide) hc, H2, hv⟩) (fun r hr => ⟨hr.1, ag_tr (ag_mo (by decide) A2) hr.2⟩)
theorem fm_ward {m : Nat} (hm : m < 100) (hx : mk_ σ b V G lw) (hc : mst_ σ b s n) (H : mh_ σ b 130 h) : pu_ok (F_X6_wardenCost σ (some (b + 123)) (Int32.ofNat m)) (fun z => z.1 = sp_wc V G lw s n m 60 0 h 0 ∧ ag_ b [24, 25, 31, 54, 55] σ z.2 ∧ mh_ z.2 b 130 h) := by
  have s0 := hx.1
  unfold F_X6_wardenCost
  simp only [ss_123 s0, pu_bs]
  refine pu_bind (fm_keepHut s0 H) ?_
  rintro υ ⟨A2, H2⟩
  exact pu_mono (lm_ward hm 60 0 υ 1000 h 0 (by omega) (by omega) ⟨mk_ag A2 (by decide) hx, mst_ag A2 s0 (by decide) hc, H2, mh_ag A2 s0 (by decide) (by decide) H⟩) (fun r hr => ⟨hr.1, ag_tr (ag_mo (by decide) A2) (ag_mo (by decide) hr.2.1), hr.2.2⟩)
def sp_wd (V : sp_V) (G : Nat) (lw : sp_W) (s : Nat → Int32) (n : Nat) (h : sp_H) (w : Int32) : Nat → Int32 → Int32 → Int32
  | 0, x, y => if w = 0 then x else if w = 1 then y else sp_wc V G lw s n 0 60 0 h 0 - y
  | m + 1, x, y => if sp_wc V G lw s n (m + 1) 60 0 h 0 < y then sp_wd V G lw s n h w m (Int32.ofNat (m + 1)) (sp_wc V G lw s n (m + 1) 60 0 h 0) else sp_wd V G lw s n h w m x y
theorem lx_warden {w : Int32} (hv : sp_hw h) : ∀ m σ q x y, m < 20 → m < q → xk_ σ b ga V G lw → xcm_ σ b G s n → xh_ σ b 12 h → pu_ok (F_X0_warden_39 q σ (some b) w x y (Int32.ofNat m)) (fun z => z.1 = sp_wd V G lw s n h w m x y ∧ ag_ b [5, 11] σ z.2) := by
  intro m
  induction m with
  | zero =>
    intro σ q x y hm hq hx hc H
    obtain ⟨q, rfl⟩ : ∃ z, q = z + 1 := ⟨q - 1, by omega⟩
    have s0 := hx.1
    unfold F_X0_warden_39 sp_wd
    rw [if_pos (by decide)]
    by_cases c : w = 0
    · rw [if_pos c, if_pos c]; exact pu_ret ⟨rfl, ag_rf _ s0⟩
    rw [if_neg c, if_neg c]
    by_cases c : w = 1
    · rw [if_pos c, if_pos c]; exact pu_ret ⟨rfl, ag_rf _ s0⟩
    rw [if_neg c, if_neg c, ss_0 s0, pu_bs]
    refine pu_b2 (fx_ward (m := 0) (by omega) (Or.inl ⟨rfl, rfl⟩) hx hc H hv) ?_
    rintro v υ ⟨rfl, A⟩
    exact pu_ret ⟨rfl, A⟩
  | succ m ih =>
    intro σ q x y hm hq hx hc H
    obtain ⟨q, rfl⟩ : ∃ z, q = z + 1 := ⟨q - 1, by omega⟩
    have s0 := hx.1
    unfold F_X0_warden_39 sp_wd
    rw [if_neg (fun z => by have := (nl_ge_0 (by omega)).mp z; omega), ss_0 s0, pu_bs, nu_m1]
    refine pu_b2 (fx_ward (m := m + 1) (by omega) (Or.inr ⟨by omega, rfl⟩) hx hc H hv) ?_
    rintro v υ ⟨rfl, A⟩
    dsimp only at A ⊢
    by_cases c : sp_wc V G lw s n (m + 1) 60 0 h 0 < y
    · rw [if_pos c, if_pos c]
      exact pu_mono (ih υ q _ _ (by omega) (by omega) (xk_ag A (by decide) hx) (xcm_ag A s0 (by decide) hc) (xh_ag A s0 m12 (by decide) H)) (fun z hz => ⟨hz.1, ag_tr A hz.2⟩)
    · rw [if_neg c, if_neg c]
      exact pu_mono (ih υ q _ _ (by omega) (by omega) (xk_ag A (by decide) hx) (xcm_ag A s0 (by decide) hc) (xh_ag A s0 m12 (by decide) H)) (fun z hz => ⟨hz.1, ag_tr A hz.2⟩)
theorem lm_warden {w : Int32} : ∀ m σ q x y, m < 20 → m < q → mk_ σ b V G lw → mst_ σ b s n → mh_ σ b 130 h → pu_ok (F_X6_warden_48 q σ (some (b + 123)) w x y (Int32.ofNat m)) (fun z => z.1 = sp_wd V G lw s n h w m x y ∧ ag_ b [24, 25, 31, 54, 55] σ z.2 ∧ mh_ z.2 b 130 h) := by
  intro m
  induction m with
  | zero =>
    intro σ q x y hm hq hx hc H
    obtain ⟨q, rfl⟩ : ∃ z, q = z + 1 := ⟨q - 1, by omega⟩
    have s0 := hx.1
    unfold F_X6_warden_48 sp_wd
    rw [if_pos (by decide)]
    by_cases c : w = 0
    · rw [if_pos c, if_pos c]; exact pu_ret ⟨rfl, ag_rf _ s0, H⟩
    rw [if_neg c, if_neg c]
    by_cases c : w = 1
    · rw [if_pos c, if_pos c]; exact pu_ret ⟨rfl, ag_rf _ s0, H⟩
    rw [if_neg c, if_neg c, ss_123 s0, pu_bs]
    refine pu_b2 (fm_ward (m := 0) (by omega) hx hc H) ?_
    rintro v υ ⟨rfl, A⟩
    exact pu_ret ⟨rfl, A⟩
  | succ m ih =>
    intro σ q x y hm hq hx hc H
    obtain ⟨q, rfl⟩ : ∃ z, q = z + 1 := ⟨q - 1, by omega⟩
    have s0 := hx.1
    unfold F_X6_warden_48 sp_wd
    rw [if_neg (fun z => by have := (nl_gt_1 (by omega)).mp z; omega), ss_123 s0, pu_bs, nu_m1]
    refine pu_b2 (fm_ward (m := m + 1) (by omega) hx hc H) ?_
    rintro v υ ⟨rfl, A, HA⟩
    dsimp only at A HA ⊢
    by_cases c : sp_wc V G lw s n (m + 1) 60 0 h 0 < y
    · rw [if_pos c, if_pos c]
      exact pu_mono (ih υ q _ _ (by omega) (by omega) (mk_ag A (by decide) hx) (mst_ag A s0 (by decide) hc) HA) (fun z hz => ⟨hz.1, ag_tr A hz.2.1, hz.2.2⟩)
    · rw [if_neg c, if_neg c]
      exact pu_mono (ih υ q _ _ (by omega) (by omega) (mk_ag A (by decide) hx) (mst_ag A s0 (by decide) hc) HA) (fun z hz => ⟨hz.1, ag_tr A hz.2.1, hz.2.2⟩)
theorem qq_warden (hw : sw_ hd sz el nb) (hv : sp_hw h) (x1 x2 : Int32) : qq_ b ga ra ba nb kd hd sz el V G lw h (fun σ => F_X0_warden σ (some b) x1 x2) (fun σ => F_X6_warden σ (some (b + 123)) x1 x2) := by
  by_cases c2 : 0 ≤ x2 ∧ x2 ≤ 2
  rotate_left
  · refine ⟨-2000000000, fun σ hq => ?_, fun σ hq => ?_⟩
    · simp only [F_X0_warden, fx_w2, ra_n c2, pu_b2s, if_true]; exact pu_ret ⟨rfl, ag_rf _ hq.1.1⟩
    · simp only [F_X6_warden, fm_isShelf, fm_in_, ra_n c2, pu_b2s, if_true]
      split
      · exact pu_ret ⟨rfl, ag_rf _ hq.1.1, hq.2.2⟩
      · exact pu_ret ⟨rfl, ag_rf _ hq.1.1, hq.2.2⟩
  by_cases c1 : 0 ≤ x1 ∧ x1 ≤ 5
  rotate_left
  · refine ⟨-2000000000, fun σ hq => ?_, fun σ hq => ?_⟩
    · simp only [F_X0_warden, fx_w2, ra_p c2, nu_10, if_false, ss_0 hq.1.1, pu_bs, fx_takesB hq.1.1 c1, pu_b2s, if_neg (show ¬ (0 : Int32) ≤ -1 by decide)]; exact pu_ret ⟨rfl, ag_rf _ hq.1.1⟩
    · simp only [F_X6_warden, fm_isShelf, ra_n c1, pu_b2s, if_true]; exact pu_ret ⟨rfl, ag_rf _ hq.1.1, hq.2.2⟩
  obtain ⟨d, rfl, h6⟩ := nu_natb (m := 5) c1.1 (by decide) c1.2
  have h6 : d < 6 := by omega
  have hz := (hw d h6).1
  by_cases e2 : hd d = -2
  rotate_left
  · refine ⟨-2000000000, fun σ hq => ?_, fun σ hq => ?_⟩
    · have s0 := hq.1.1
      simp only [F_X0_warden, fx_w2, ra_p c2, nu_10, if_false, pu_b2s, ss_0 s0, pu_bs, fx_takesN hq.1 hq.2.1 hq.2.2.1 hw h6 e2, if_neg (rf_n e2).2.2]; exact pu_ret ⟨rfl, ag_rf _ s0⟩
    · have s0 := hq.1.1
      simp only [F_X6_warden, fm_isShelf, ra_p c1, fm_in_, ra_p c2, pu_b2s, nu_10, if_false, ss_123 s0, pu_bs, fm_rowFault s0 hq.2.1 h6, if_neg (rf_n e2).2.2]; exact pu_ret ⟨rfl, ag_rf _ s0, hq.2.2⟩
  refine ⟨sp_wd V G lw (fun i => (el d i).toInt32) (min (sz d) 30) h x2 19 20 (sp_wc V G lw (fun i => (el d i).toInt32) (min (sz d) 30) 20 60 0 h 0), fun σ hq => ?_, fun σ hq => ?_⟩
  · have s0 := hq.1.1
    simp only [F_X0_warden, fx_w2, ra_p c2, nu_10, if_false, pu_b2s, ss_0 s0, pu_bs]
    refine pu_b2 (fx_takes hq.1 hq.2.1 hq.2.2.1 hw h6 e2) ?_
    rintro v τ ⟨rfl, A1, C1⟩
    dsimp only at A1 C1
    have sτ := ag_sk A1
    rw [if_pos (by decide)]
    rw [ss_0 sτ, pu_bs]
    have k1 := xk_ag A1 (by decide) hq.1
    have H1 := xh_ag A1 hq.1.1 m12 (by decide) hq.2.2.2
    refine pu_b2 (fx_ward (m := 20) (by decide) (Or.inr ⟨by decide, rfl⟩) k1 C1 H1 hv) ?_
    rintro v υ ⟨rfl, A⟩
    dsimp only at A ⊢
    exact pu_mono (lx_warden hv 19 υ 1000 20 _ (by decide) (by decide) (xk_ag A (by decide) k1) (xcm_ag A sτ (by decide) C1) (xh_ag A sτ m12 (by decide) H1)) (fun z hz => ⟨hz.1, ag_tr (ag_mo (by decide) A1) (ag_tr (ag_mo (by decide) A) (ag_mo (by decide) hz.2))⟩)
  · have s0 := hq.1.1
    simp only [F_X6_warden, fm_isShelf, ra_p c1, fm_in_, ra_p c2, pu_b2s, nu_10, if_false, ss_123 s0, pu_bs, fm_rowFault s0 hq.2.1 h6, rf_0 e2]
    rw [if_pos (by decide)]
    refine pu_bind (fm_layStays hq.1.1 hq.2.1 (hw d h6).1 h6) ?_
    rintro τ ⟨A1, C1⟩
    have sτ := ag_sk A1
    rw [ss_123 sτ, pu_bs]
    have k1 := mk_ag A1 (by decide) hq.1
    have H1 := mh_ag A1 hq.1.1 (by decide) (by decide) hq.2.2
    refine pu_b2 (fm_ward (m := 20) (by decide) k1 C1 H1) ?_
    rintro v υ ⟨rfl, A, HA⟩
    dsimp only at A HA ⊢
    exact pu_mono (lm_warden 19 υ 1000 20 _ (by decide) (by decide) (mk_ag A (by decide) k1) (mst_ag A sτ (by decide) C1) HA) (fun z hz => ⟨hz.1, ag_tr (ag_mo (by decide) A1) (ag_tr (ag_mo (by decide) A) (ag_mo (by decide) hz.2.1)), hz.2.2⟩)
end
