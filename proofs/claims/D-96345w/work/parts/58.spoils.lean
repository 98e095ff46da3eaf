/-! ===== spoils ===== -/
def sp_fl (s : Nat → Int32) (g : Nat) : Nat → Nat → Int32 → Int32
  | 0, _, f => f
  | m + 1, k, f => sp_fl s g m (k + 1) (if s k = Int32.ofNat g then 1 else f)
def sp_rm (s : Nat → Int32) (g : Nat) : Nat → Int32 := fun k => if s k = Int32.ofNat g then -1 else s k
/-- best and least behind a guest -/
def sp_ub (f best least L x : Int32) : Int32 := if f = 0 then best else if best = -2 then x else if L < least then x else best
def sp_ul (f best least L : Int32) : Int32 := if f = 0 then least else if best = -2 then L else if L < least then L else least
def sp_sl (V : sp_V) (G : Nat) (lw : sp_W) (s : Nat → Int32) (n : Nat) (h : sp_H) (w : Int32) : Nat → Nat → Int32 → Int32 → Int32
  | 0, _, best, least => if w = 0 then best else least
  | m + 1, g, best, least => sp_sl V G lw s n h w m (g + 1) (sp_ub (sp_fl s g n 0 0) best least (sp_lo V G lw (sp_rm s g) n 0 h 0) (Int32.ofNat g)) (sp_ul (sp_fl s g n 0 0) best least (sp_lo V G lw (sp_rm s g) n 0 h 0))
section
variable {σ : ah_S} {b nb G : Nat} {ga ra ba kd : Nat → Nat} {hd : Nat → Int32} {sz : Nat → Nat} {el : sp_E} {V : sp_V} {lw : sp_W} {h : sp_H} {s : Nat → Int32} {n : Nat}
theorem sp_ceq {G g : Nat} {x : Int32} (hG : G ≤ 7) (hg : g < G) : sp_c G x = Int32.ofNat g ↔ x = Int32.ofNat g := by
  unfold sp_c
  by_cases c : 0 ≤ x ∧ x < Int32.ofNat G
  · rw [if_pos c]
  · rw [if_neg c]
    refine ⟨fun e => absurd e.symm (nu_ne1 (by omega)), fun e => ?_⟩
    exact absurd ⟨by rw [e]; exact (nl_le_0 (by omega)).mpr (by omega), by rw [e]; exact (nu_oflt (by omega) (by omega)).mpr hg⟩ c
theorem sp_crm {G g k : Nat} (hG : G ≤ 7) (hg : g < G) : sp_c G (sp_rm s g k) = if s k = Int32.ofNat g then -1 else sp_c G (s k) := by
  unfold sp_rm
  by_cases c : s k = Int32.ofNat g
  · rw [if_pos c, if_pos c, sp_cm hG]
  · rw [if_neg c, if_neg c]
theorem lx_sp75 {K : ah_S → Option Nat → Int32 → Int32 → Int32 → Int32 → Option (Int32 × ah_S)} {Q : Int32 × ah_S → Prop} {w best least : Int32} {g : Nat} {ρ : ah_S} (hx : xk_ ρ b ga V G lw) (H : xh_ ρ b 12 h) (hv : sp_hw h) (hg : g < G) (hn : n ≤ 30) (ht : ∀ k, k < n → ah_ai ρ (b + 24) k = sp_c G (s k)) (f0 : Int32)
    (hK : ∀ τ, ag_ b [5, 11, 12] ρ τ → ah_fi τ 21 b = Int32.ofNat n → pu_ok (K τ (some b) w (sp_ub f0 best least (sp_lo V G lw (sp_rm s g) n 0 h 0) (Int32.ofNat g)) (sp_ul f0 best least (sp_lo V G lw (sp_rm s g) n 0 h 0)) (Int32.ofNat g + 1)) Q) : ∀ m k f σ q, k + m = n → m < q → (f = 0 ∨ f = 1) → sp_fl s g m k f = f0 → ag_ b [12] ρ σ → ah_fi σ 21 b = Int32.ofNat n → (∀ j, j < k → ah_ai σ (b + 22) j = sp_c G (sp_rm s g j)) → pu_ok (F_X0_spoils_75 K q σ (some b) w best least (Int32.ofNat g) f (Int32.ofNat k)) Q := by
  have hG := hx.2.1.1
  intro m
  induction m with
  | zero =>
    intro k f σ q hk hq hf hfl A i1 i2
    obtain ⟨q, rfl⟩ : ∃ z, q = z + 1 := ⟨q - 1, by omega⟩
    have s0 := ag_sk A
    have hfl : f = f0 := hfl
    subst hfl
    unfold F_X0_spoils_75
    simp only [si_21 s0, pu_bs, i1]
    rw [if_pos (by rw [nu_ofle (by omega) (by omega)]; omega)]
    unfold sp_ub sp_ul at hK
    by_cases c : f = 0
    · rw [if_pos c]
      simp only [if_pos c] at hK
      exact hK σ (ag_mo (by decide) A) i1
    · rw [if_neg c, ss_0 s0, pu_bs]
      simp only [if_neg c] at hK
      have hc : xcm_ σ b G (sp_rm s g) n := ⟨i1, hn, fun j hj => i2 j (by omega)⟩
      refine pu_b2 (fx_lossRow (xk_ag A (by decide) hx) hc (xh_ag A hx.1 m12 (by decide) H) hv) ?_
      rintro v υ ⟨rfl, A2⟩
      dsimp only at A2 ⊢
      have i1' := (xcm_ag A2 s0 (by decide) hc).1
      have A3 : ag_ b [5, 11, 12] ρ υ := ag_tr (ag_mo (by decide) A) (ag_mo (by decide) A2)
      by_cases d : best = -2
      · rw [if_pos d]
        simp only [if_pos d] at hK
        exact hK υ A3 i1'
      · rw [if_neg d]
        simp only [if_neg d] at hK
        by_cases e : sp_lo V G lw (sp_rm s g) n 0 h 0 < least
        · rw [if_pos e]
          simp only [if_pos e] at hK
          exact hK υ A3 i1'
        · rw [if_neg e]
          simp only [if_neg e] at hK
          exact hK υ A3 i1'
  | succ m ih =>
    intro k f σ q hk hq hf hfl A i1 i2
    obtain ⟨q, rfl⟩ : ∃ z, q = z + 1 := ⟨q - 1, by omega⟩
    have s0 := ag_sk A
    have hfl : sp_fl s g m (k + 1) (if s k = Int32.ofNat g then 1 else f) = f0 := hfl
    have ht' : ah_ai σ (b + 24) k = sp_c G (s k) := by rw [ag_ai A hx.1 (by decide) (by decide)]; exact ht k (by omega)
    unfold F_X0_spoils_75
    simp only [si_21 s0, pu_bs, i1]
    rw [if_neg (by rw [nu_ofle (by omega) (by omega)]; omega)]
    simp only [sg_25 s0, pu_bs, al_24 s0 (show k < 30 by omega), ht']
    have nx : ∀ v, v = sp_c G (sp_rm s g k) → (∀ j, j < k + 1 → ah_ai (ah_sA σ (b + 22) k v) (b + 22) j = sp_c G (sp_rm s g j)) := fun v hv' j hj => by
      rw [rw_ai_sA, if_pos rfl]
      by_cases z : j = k
      · rw [if_pos z, hv', z]
      · rw [if_neg z]; exact i2 j (by omega)
    have e := sp_crm (s := s) (k := k) hG hg
    by_cases c : s k = Int32.ofNat g
    · rw [if_pos ((sp_ceq hG hg).mpr c)]
      rw [if_pos c] at hfl e
      unfold F_X0_spoils_103
      simp only [sg_20 s0, sg_25 s0, pu_bs, al_24 s0 (show k < 30 by omega), ht']
      rw [if_pos ((sp_ceq hG hg).mpr c), aw_22 s0 (by omega), pu_bs, nl_ar_1, show f ||| 1 = 1 by rcases hf with rfl | rfl <;> rfl]
      exact ih (k + 1) 1 _ q (by omega) (by omega) (Or.inr rfl) hfl (ag_wA A (fun _ => lb_sc (by decide) rfl (by decide))) i1 (nx _ e.symm)
    · rw [if_neg (fun z => c ((sp_ceq hG hg).mp z))]
      rw [if_neg c] at hfl e
      unfold F_X0_spoils_103
      simp only [sg_20 s0, sg_25 s0, pu_bs, al_24 s0 (show k < 30 by omega), ht']
      rw [if_neg (fun z => c ((sp_ceq hG hg).mp z)), aw_22 s0 (by omega), pu_bs, nl_ar_1, show f ||| 0 = f by rcases hf with rfl | rfl <;> rfl]
      exact ih (k + 1) f _ q (by omega) (by omega) hf hfl (ag_wA A (fun _ => lb_sc (by decide) rfl (by decide))) i1 (nx _ e.symm)
theorem lx_spoils {w : Int32} (hv : sp_hw h) (hn : n ≤ 30) : ∀ m g σ q best least, g + m = G → m < q → xk_ σ b ga V G lw → xh_ σ b 12 h → ah_fi σ 21 b = Int32.ofNat n → (∀ k, k < n → ah_ai σ (b + 24) k = sp_c G (s k)) → pu_ok (F_X0_spoils_60 q σ (some b) w best least (Int32.ofNat g)) (fun r => r.1 = sp_sl V G lw s n h w m g best least ∧ ag_ b [5, 11, 12] σ r.2) := by
  intro m
  induction m with
  | zero =>
    intro g σ q best least hg hq hx H i1 ht
    obtain ⟨q, rfl⟩ : ∃ z, q = z + 1 := ⟨q - 1, by omega⟩
    have s0 := hx.1
    have hG := hx.2.1.1
    unfold F_X0_spoils_60 sp_sl
    simp only [si_8 s0, pu_bs, hx.2.1.2.1]
    rw [if_pos (by rw [nu_ofle (by omega) (by omega)]; omega)]
    by_cases c : w = 0
    · rw [if_pos c, if_pos c]; exact pu_ret ⟨rfl, ag_rf _ s0⟩
    · rw [if_neg c, if_neg c]; exact pu_ret ⟨rfl, ag_rf _ s0⟩
  | succ m ih =>
    intro g σ q best least hg hq hx H i1 ht
    obtain ⟨q, rfl⟩ : ∃ z, q = z + 1 := ⟨q - 1, by omega⟩
    have s0 := hx.1
    have hG := hx.2.1.1
    unfold F_X0_spoils_60 sp_sl
    simp only [si_8 s0, pu_bs, hx.2.1.2.1]
    rw [if_neg (by rw [nu_ofle (by omega) (by omega)]; omega)]
    refine lx_sp75 hx H hv (by omega) hn ht _ (fun τ A i1' => ?_) n 0 0 σ 1000 (by omega) (by omega) (Or.inl rfl) rfl (ag_rf _ s0) i1 (fun j hj => absurd hj (Nat.not_lt_zero _))
    rw [nl_ar_1]
    exact pu_mono (ih (g + 1) τ q _ _ (by omega) (by omega) (xk_ag A (by decide) hx) (xh_ag A s0 m12 (by decide) H) i1' (fun k hk => by rw [ag_ai A s0 (by decide) (by decide)]; exact ht k hk)) (fun r hr => ⟨hr.1, ag_tr A hr.2⟩)
theorem lm_sp65 {K : ah_S → Option Nat → Int32 → Int32 → Int32 → Int32 → Option (Int32 × ah_S)} {Q : Int32 × ah_S → Prop} {w best least least' : Int32} {g : Nat} {ρ : ah_S} (hx : mk_ ρ b V G lw) (H : mh_ ρ b 130 h) (hg : g < G) (hn : n ≤ 30) (ht : ∀ k, k < n → ah_ai ρ (b + 148) k = s k) (hb : best = -2 ∨ 0 ≤ best) (hl : best ≠ -2 → least' = least) (f0 : Int32)
    (hK : ∀ τ z, ag_ b [24, 25, 31, 32, 54, 55] ρ τ → mh_ τ b 130 h → ah_fi τ 636 (b + 123) = Int32.ofNat n → (sp_ub f0 best least (sp_lo V G lw (sp_rm s g) n 0 h 0) (Int32.ofNat g) ≠ -2 → z = sp_ul f0 best least (sp_lo V G lw (sp_rm s g) n 0 h 0)) → pu_ok (K τ (some (b + 123)) w (sp_ub f0 best least (sp_lo V G lw (sp_rm s g) n 0 h 0) (Int32.ofNat g)) z (Int32.ofNat g + 1)) Q) : ∀ m k f σ q, k + m = n → m < q → (f = 0 ∨ f = 1) → sp_fl s g m k f = f0 → ag_ b [32] ρ σ → ah_fi σ 636 (b + 123) = Int32.ofNat n → (∀ j, j < k → ah_ai σ (b + 146) j = sp_rm s g j) → pu_ok (F_X6_spoils_65 K q σ (some (b + 123)) w best least' (Int32.ofNat g) f (Int32.ofNat k)) Q := by
  have hG := hx.2.1
  intro m
  induction m with
  | zero =>
    intro k f σ q hk hq hf hfl A i1 i2
    obtain ⟨q, rfl⟩ : ∃ z, q = z + 1 := ⟨q - 1, by omega⟩
    have s0 := ag_sk A
    have hfl : f = f0 := hfl
    subst hfl
    unfold F_X6_spoils_65
    simp only [si_636 s0, pu_bs, i1]
    rw [if_pos (by rw [nu_ofle (by omega) (by omega)]; omega)]
    unfold sp_ub sp_ul at hK
    by_cases c : f = 0
    · rw [if_pos c]
      simp only [if_pos c] at hK
      unfold F_X6_spoils_138
      rw [if_pos c]
      exact hK σ least' (ag_mo (by decide) A) (mh_ag A hx.1 (by decide) (by decide) H) i1 hl
    · rw [if_neg c, ss_123 s0, pu_bs]
      simp only [if_neg c] at hK
      have hc : mst_ σ b (sp_rm s g) n := ⟨i1, hn, fun j hj => i2 j (by omega)⟩
      refine pu_b2 (fm_lossRow (mk_ag A (by decide) hx) hc (mh_ag A hx.1 (by decide) (by decide) H)) ?_
      rintro v υ ⟨rfl, A2, H2⟩
      dsimp only at A2 H2 ⊢
      have i1' := (mst_ag A2 s0 (by decide) hc).1
      have A3 : ag_ b [24, 25, 31, 32, 54, 55] ρ υ := ag_tr (ag_mo (by decide) A) (ag_mo (by decide) A2)
      unfold F_X6_spoils_138
      rw [if_neg c]
      by_cases d : best = -2
      · rw [if_pos (by rw [d]; decide)]
        simp only [if_pos d] at hK
        exact hK υ _ A3 H2 i1' (fun _ => rfl)
      · have b0 : 0 ≤ best := hb.resolve_left d
        rw [if_neg (fun z => absurd (Int32.lt_of_lt_of_le z b0) Int32.lt_irrefl)]
        simp only [if_neg d] at hK
        rw [hl d]
        by_cases e : sp_lo V G lw (sp_rm s g) n 0 h 0 < least
        · rw [if_pos e]
          simp only [if_pos e] at hK
          exact hK υ _ A3 H2 i1' (fun _ => rfl)
        · rw [if_neg e]
          simp only [if_neg e] at hK
          exact hK υ _ A3 H2 i1' (fun _ => rfl)
  | succ m ih =>
    intro k f σ q hk hq hf hfl A i1 i2
    obtain ⟨q, rfl⟩ : ∃ z, q = z + 1 := ⟨q - 1, by omega⟩
    have s0 := ag_sk A
    have hfl : sp_fl s g m (k + 1) (if s k = Int32.ofNat g then 1 else f) = f0 := hfl
    have ht' : ∀ v, ah_ai (ah_sA σ (b + 146) k v) (b + 148) k = s k := fun v => by rw [rw_ai_sA, if_neg (by omega), ag_ai A hx.1 (by decide) (by decide)]; exact ht k (by omega)
    have ht0 : ah_ai σ (b + 148) k = s k := by rw [ag_ai A hx.1 (by decide) (by decide)]; exact ht k (by omega)
    unfold F_X6_spoils_65
    simp only [si_636 s0, pu_bs, i1]
    rw [if_neg (by rw [nu_ofle (by omega) (by omega)]; omega)]
    simp only [sg_638 s0, sg_635 s0, pu_bs, al_148 s0 (show k < 30 by omega), ht0]
    have nx : ∀ v, v = sp_rm s g k → (∀ j, j < k + 1 → ah_ai (ah_sA σ (b + 146) k v) (b + 146) j = sp_rm s g j) := fun v hv' j hj => by
      rw [rw_ai_sA, if_pos rfl]
      by_cases z : j = k
      · rw [if_pos z, hv', z]
      · rw [if_neg z]; exact i2 j (by omega)
    by_cases c : s k = Int32.ofNat g
    · rw [if_pos c] at hfl ⊢
      unfold F_X6_spoils_103
      rw [aw_146 s0 (by omega), pu_bs, sg_638 (σ := ah_sA σ (b + 146) k (-1)) s0, pu_bs, al_148 (σ := ah_sA σ (b + 146) k (-1)) s0 (by omega), pu_bs, ht', if_pos c, nl_ar_1]
      exact ih (k + 1) 1 _ q (by omega) (by omega) (Or.inr rfl) hfl (ag_wA A (fun _ => lb_sc (by decide) rfl (by decide))) i1 (nx _ (by unfold sp_rm; rw [if_pos c]))
    · rw [if_neg c] at hfl ⊢
      unfold F_X6_spoils_103
      rw [aw_146 s0 (by omega), pu_bs, sg_638 (σ := ah_sA σ (b + 146) k (s k)) s0, pu_bs, al_148 (σ := ah_sA σ (b + 146) k (s k)) s0 (by omega), pu_bs, ht', if_neg c, nl_ar_1]
      exact ih (k + 1) f _ q (by omega) (by omega) hf hfl (ag_wA A (fun _ => lb_sc (by decide) rfl (by decide))) i1 (nx _ (by unfold sp_rm; rw [if_neg c]))
theorem lm_spoils {w : Int32} (hn : n ≤ 30) : ∀ m g σ q best least least', g + m = G → m < q → (best = -2 ∨ 0 ≤ best) → (best = -2 → least = -2) → (best ≠ -2 → least' = least) → mk_ σ b V G lw → mh_ σ b 130 h → ah_fi σ 636 (b + 123) = Int32.ofNat n → (∀ k, k < n → ah_ai σ (b + 148) k = s k) → pu_ok (F_X6_spoils_50 q σ (some (b + 123)) w best least' (Int32.ofNat g)) (fun r => r.1 = sp_sl V G lw s n h w m g best least ∧ ag_ b [24, 25, 31, 32, 54, 55] σ r.2 ∧ mh_ r.2 b 130 h) := by
  intro m
  induction m with
  | zero =>
    intro g σ q best least least' hg hq hb hb2 hl hx H i1 ht
    obtain ⟨q, rfl⟩ : ∃ z, q = z + 1 := ⟨q - 1, by omega⟩
    have s0 := hx.1
    have hG := hx.2.1
    unfold F_X6_spoils_50 sp_sl
    simp only [si_603 s0, pu_bs, hx.2.2.1.1]
    rw [if_pos (by rw [nu_ofle (by omega) (by omega)]; omega)]
    by_cases d : best = -2
    · rw [if_neg (by rw [d]; decide), hb2 d, d]
      exact pu_ret ⟨by split <;> rfl, ag_rf _ s0, H⟩
    · rw [if_pos (hb.resolve_left d), hl d]
      by_cases c : w = 0
      · rw [if_pos c, if_pos c]; exact pu_ret ⟨rfl, ag_rf _ s0, H⟩
      · rw [if_neg c, if_neg c]; exact pu_ret ⟨rfl, ag_rf _ s0, H⟩
  | succ m ih =>
    intro g σ q best least least' hg hq hb hb2 hl hx H i1 ht
    obtain ⟨q, rfl⟩ : ∃ z, q = z + 1 := ⟨q - 1, by omega⟩
    have s0 := hx.1
    have hG := hx.2.1
    unfold F_X6_spoils_50 sp_sl
    simp only [si_603 s0, pu_bs, hx.2.2.1.1]
    rw [if_neg (by rw [nu_ofle (by omega) (by omega)]; omega)]
    refine lm_sp65 (least := least) hx H (by omega) hn ht hb hl _ (fun τ z A HA i1' hz => ?_) n 0 0 σ 1000 (by omega) (by omega) (Or.inl rfl) rfl (ag_rf _ s0) i1 (fun j hj => absurd hj (Nat.not_lt_zero _))
    rw [nl_ar_1]
    have g0 : (0 : Int32) ≤ Int32.ofNat g := (nl_le_0 (by omega)).mpr (by omega)
    refine pu_mono (ih (g + 1) τ q _ _ _ (by omega) (by omega) ?_ ?_ hz (mk_ag A (by decide) hx) HA i1' (fun k hk => by rw [ag_ai A s0 (by decide) (by decide)]; exact ht k hk)) (fun r hr => ⟨hr.1, ag_tr A hr.2.1, hr.2.2⟩)
    · unfold sp_ub
      split
      · exact hb
      · split
        · exact Or.inr g0
        · split
          · exact Or.inr g0
          · exact hb
    · unfold sp_ub sp_ul
      split
      · exact hb2
      · split
        · intro e
          rw [e] at g0
          exact absurd g0 (by decide)
        · split
          · intro e
            rw [e] at g0
            exact absurd g0 (by decide)
          · exact hb2
theorem fm_keepStays (h0 : sk_ok σ b) (hc : mst_ σ b s n) : pu_ok (F_X6_keepStays σ (some (b + 123))) (fun τ => ag_ b [34] σ τ ∧ ∀ k, k < n → ah_ai τ (b + 148) k = s k) := by
  have hn := hc.2.1
  have key : ∀ m k τ q, k + m = n → m < q → ag_ b [34] σ τ → (∀ j, j < k → ah_ai τ (b + 148) j = s j) → pu_ok (F_X6_keepStays_2 q τ (some (b + 123)) (Int32.ofNat k)) (fun τ => ag_ b [34] σ τ ∧ ∀ k, k < n → ah_ai τ (b + 148) k = s k) := by
    intro m
    induction m with
    | zero =>
      intro k τ q hk hq A i2
      obtain ⟨q, rfl⟩ : ∃ z, q = z + 1 := ⟨q - 1, by omega⟩
      have s0 := ag_sk A
      have hc' := mst_ag A h0 (by decide) hc
      unfold F_X6_keepStays_2
      rw [si_636 s0, pu_bs, hc'.1, if_pos (by rw [nu_ofle (by omega) (by omega)]; omega)]
      exact pu_ret ⟨A, fun j hj => i2 j (by omega)⟩
    | succ m ih =>
      intro k τ q hk hq A i2
      obtain ⟨q, rfl⟩ : ∃ z, q = z + 1 := ⟨q - 1, by omega⟩
      have s0 := ag_sk A
      have hc' := mst_ag A h0 (by decide) hc
      unfold F_X6_keepStays_2
      rw [si_636 s0, pu_bs, hc'.1, if_neg (by rw [nu_ofle (by omega) (by omega)]; omega)]
      simp only [sg_638 s0, sg_635 s0, pu_bs, al_146 s0 (show k < 30 by omega), hc'.2.2 k (by omega), aw_148 s0 (show k < 30 by omega), nl_ar_1]
      refine ih (k + 1) _ q (by omega) (by omega) (ag_wA A (fun _ => lb_sc (by decide) rfl (by decide))) (fun j hj => ?_)
      rw [rw_ai_sA, if_pos rfl]
      by_cases z : j = k
      · rw [if_pos z, z]
      · rw [if_neg z]; exact i2 j (by omega)
  exact key n 0 σ 1000 (by omega) (by omega) (ag_rf _ h0) (fun j hj => absurd hj (Nat.not_lt_zero _))
theorem fx_told (h0 : sk_ok σ b) (hc : xcm_ σ b G s n) : ah_cp σ (some (b + 22)) 0 (some (b + 24)) 0 (Int32.ofNat n) = some (ah_cpI σ (b + 22) 0 (b + 24) 0 n) ∧ ag_ b [14] σ (ah_cpI σ (b + 22) 0 (b + 24) 0 n) ∧ ∀ k, k < n → ah_ai (ah_cpI σ (b + 22) 0 (b + 24) 0 n) (b + 24) k = sp_c G (s k) := by
  have hn := hc.2.1
  refine ⟨sk_cp (i := 0) (j := 0) (m1 := 30) (m2 := 30) h0 (by decide) (by decide) rfl rfl rfl rfl (by omega) (by omega) (by decide) (by decide), ag_cI (ag_rf _ h0) (fun _ => lb_sc (by decide) rfl (by decide)), fun k hk => ?_⟩
  rw [rw_ai_cpI, if_pos rfl, if_pos (by omega), show 0 + (k - 0) = k by omega]
  exact hc.2.2 k hk
theorem qq_spoils (hw : sw_ hd sz el nb) (hv : sp_hw h) (x1 x2 : Int32) : qq_ b ga ra ba nb kd hd sz el V G lw h (fun σ => F_X0_spoils σ (some b) x1 x2) (fun σ => F_X6_spoils σ (some (b + 123)) x1 x2) := by
  by_cases c1 : 0 ≤ x1 ∧ x1 ≤ 5
  rotate_left
  · refine ⟨-1, fun σ hq => ?_, fun σ hq => ?_⟩
    · simp only [F_X0_spoils, fx_isShelf, ra_n c1, pu_b2s, if_true]; exact pu_ret ⟨rfl, ag_rf _ hq.1.1⟩
    · simp only [F_X6_spoils, fm_isShelf, ra_n c1, pu_b2s, if_true]; exact pu_ret ⟨rfl, ag_rf _ hq.1.1, hq.2.2⟩
  by_cases c2 : 0 ≤ x2 ∧ x2 ≤ 1
  rotate_left
  · refine ⟨-1, fun σ hq => ?_, fun σ hq => ?_⟩
    · simp only [F_X0_spoils, fx_isShelf, fx_w1, ra_p c1, ra_n c2, nu_10, if_false, pu_b2s, if_true]; exact pu_ret ⟨rfl, ag_rf _ hq.1.1⟩
    · simp only [F_X6_spoils, fm_isShelf, fm_in_, ra_p c1, ra_n c2, nu_10, if_false, pu_b2s, if_true]; exact pu_ret ⟨rfl, ag_rf _ hq.1.1, hq.2.2⟩
  obtain ⟨d, rfl, h6⟩ := nu_natb (m := 5) c1.1 (by decide) c1.2
  have h6 : d < 6 := by omega
  have hz := (hw d h6).1
  by_cases e2 : hd d = -2
  rotate_left
  · refine ⟨sp_rf hd d, fun σ hq => ?_, fun σ hq => ?_⟩
    · have s0 := hq.1.1
      simp only [F_X0_spoils, fx_isShelf, fx_w1, ra_p c1, ra_p c2, pu_b2s, nu_10, if_false, ss_0 s0, pu_bs, fx_takesN hq.1 hq.2.1 hq.2.2.1 hw h6 e2, if_neg (rf_n e2).2.2, fx_lookAt s0 hq.2.1 hq.2.2.1 hw h6]; exact pu_ret ⟨rfl, ag_rf _ s0⟩
    · have s0 := hq.1.1
      simp only [F_X6_spoils, fm_isShelf, fm_in_, ra_p c1, ra_p c2, pu_b2s, nu_10, if_false, ss_123 s0, pu_bs, fm_rowFault s0 hq.2.1 h6, if_neg (rf_n e2).2.2]; exact pu_ret ⟨rfl, ag_rf _ s0, hq.2.2⟩
  refine ⟨sp_sl V G lw (fun i => (el d i).toInt32) (min (sz d) 30) h x2 G 0 (-2) (-2), fun σ hq => ?_, fun σ hq => ?_⟩
  · have s0 := hq.1.1
    simp only [F_X0_spoils, fx_isShelf, fx_w1, ra_p c1, ra_p c2, pu_b2s, nu_10, if_false, ss_0 s0, pu_bs]
    refine pu_b2 (fx_takes hq.1 hq.2.1 hq.2.2.1 hw h6 e2) ?_
    rintro v τ ⟨rfl, A1, C1⟩
    dsimp only at A1 C1
    have sτ := ag_sk A1
    rw [if_pos (by decide)]
    obtain ⟨t1, t2, t3⟩ := fx_told sτ C1
    have hG := hq.1.2.1.1
    simp only [sg_20 sτ, sg_25 sτ, si_21 sτ, pu_bs, C1.1, t1]
    exact pu_mono (lx_spoils hv C1.2.1 G 0 _ 1000 (-2) (-2) (by omega) (by omega) (xk_ag t2 (by decide) (xk_ag A1 (by decide) hq.1)) (xh_ag t2 sτ m12 (by decide) (xh_ag A1 hq.1.1 m12 (by decide) hq.2.2.2)) C1.1 t3) (fun r hr => ⟨hr.1, ag_tr (ag_mo (by decide) A1) (ag_tr (ag_mo (by decide) t2) (ag_mo (by decide) hr.2))⟩)
  · have s0 := hq.1.1
    simp only [F_X6_spoils, fm_isShelf, fm_in_, ra_p c1, ra_p c2, pu_b2s, nu_10, if_false, ss_123 s0, pu_bs, fm_rowFault s0 hq.2.1 h6, rf_0 e2]
    rw [if_pos (by decide)]
    refine pu_bind (fm_layStays hq.1.1 hq.2.1 (hw d h6).1 h6) ?_
    rintro τ ⟨A1, C1⟩
    have sτ := ag_sk A1
    rw [ss_123 sτ, pu_bs]
    have hG := hq.1.2.1
    refine pu_bind (fm_keepStays sτ C1) ?_
    rintro υ ⟨A2, t3⟩
    have sυ := ag_sk A2
    exact pu_mono (lm_spoils C1.2.1 G 0 υ 1000 (-2) (-2) 0 (by omega) (by omega) (Or.inl rfl) (fun _ => rfl) (fun q => absurd rfl q) (mk_ag A2 (by decide) (mk_ag A1 (by decide) hq.1)) (mh_ag A2 sτ (by decide) (by decide) (mh_ag A1 hq.1.1 (by decide) (by decide) hq.2.2)) (mst_ag A2 sτ (by decide) C1).1 t3) (fun r hr => ⟨hr.1, ag_tr (ag_mo (by decide) A1) (ag_tr (ag_mo (by decide) A2) (ag_mo (by decide) hr.2.1)), hr.2.2⟩)
end
