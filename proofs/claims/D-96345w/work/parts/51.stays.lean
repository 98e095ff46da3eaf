/-! ===== rows read, the hut kept and laid back ===== -/
def xcm_ (σ : ah_S) (b G : Nat) (s : Nat → Int32) (n : Nat) : Prop := ah_fi σ 21 b = Int32.ofNat n ∧ n ≤ 30 ∧ ∀ k, k < n → ah_ai σ (b + 22) k = sp_c G (s k)
def mst_ (σ : ah_S) (b : Nat) (s : Nat → Int32) (n : Nat) : Prop := ah_fi σ 636 (b + 123) = Int32.ofNat n ∧ n ≤ 30 ∧ ∀ k, k < n → ah_ai σ (b + 146) k = s k
theorem xcm_ag {b G n : Nat} {L : List Nat} {σ τ : ah_S} {s : Nat → Int32} (A : ag_ b L σ τ) (h0 : sk_ok σ b) (hl : 12 ∉ L) (H : xcm_ σ b G s n) : xcm_ τ b G s n := ⟨by rw [← H.1]; exact ag_fi (k := 0) A h0 (by decide) (by decide) (by exact hl), H.2.1, fun k hk => by rw [ag_ai A h0 (by decide) (by exact hl)]; exact H.2.2 k hk⟩
theorem mst_ag {b n : Nat} {L : List Nat} {σ τ : ah_S} {s : Nat → Int32} (A : ag_ b L σ τ) (h0 : sk_ok σ b) (hl : 32 ∉ L) (H : mst_ σ b s n) : mst_ τ b s n := ⟨by rw [ag_fi A h0 (by decide) (by decide) (by exact hl)]; exact H.1, H.2.1, fun k hk => by rw [ag_ai A h0 (by decide) (by exact hl)]; exact H.2.2 k hk⟩
theorem fx_row13 {ρ : ah_S} {b G a n N : Nat} {ga : Nat → Nat} {V : sp_V} {lw : sp_W} {e : Nat → Int64} (hx : xk_ ρ b ga V G lw) (hr : xr_ ρ b a 0 N e) (hN : N ≤ 60) (hn : n ≤ 30) (hnN : n ≤ N) : ∀ m k σ q, k + m = n → m < q → ag_ b [12] ρ σ → ah_fi σ 21 b = Int32.ofNat n → (∀ j, j < k → ah_ai σ (b + 22) j = sp_c G (e j).toInt32) → pu_ok (F_X0_takeRow_13 q σ (some b) (some a) (Int32.ofNat k)) (fun τ => ag_ b [12] ρ τ ∧ xcm_ τ b G (fun i => (e i).toInt32) n) := by
  intro m
  induction m with
  | zero =>
    intro k σ q hk hq A i1 i2
    obtain ⟨q, rfl⟩ : ∃ z, q = z + 1 := ⟨q - 1, by omega⟩
    have s0 := ag_sk A
    unfold F_X0_takeRow_13
    rw [si_21 s0, pu_bs, i1, if_pos (by rw [nu_ofle (by omega) (by omega)]; omega)]
    exact pu_ret ⟨A, i1, hn, fun j hj => i2 j (by omega)⟩
  | succ m ih =>
    intro k σ q hk hq A i1 i2
    obtain ⟨q, rfl⟩ : ∃ z, q = z + 1 := ⟨q - 1, by omega⟩
    have s0 := ag_sk A
    have hrσ := xr_ag A (by decide) hr
    obtain ⟨r1, r2, r3, r4, r5, -⟩ := hrσ
    have hxσ := xk_ag A (by decide) hx
    unfold F_X0_takeRow_13
    rw [si_21 s0, pu_bs, i1, if_neg (by rw [nu_ofle (by omega) (by omega)]; omega)]
    have el : ah_lA σ 102 (some a) (Int32.ofNat k) = some ((e k).toInt32) := by rw [dy_lA (show ah_tg σ a = 102 from r3) r4 (by omega) (by omega), r5 (by decide) k (by omega)]
    simp only [sg_20 s0, pu_bs, el, ss_0 s0, fx_isGuest _ s0 hxσ.2.1, pu_b2s, nl_ar_1]
    have hG := hxσ.2.1.1
    have fin : ∀ v, v = sp_c G (e k).toInt32 → pu_ok (F_X0_takeRow_13 q (ah_sA σ (b + 22) k v) (some b) (some a) (Int32.ofNat (k + 1))) (fun τ => ag_ b [12] ρ τ ∧ xcm_ τ b G (fun i => (e i).toInt32) n) := fun v hv => ih (k + 1) _ q (by omega) (by omega) (ag_wA A (fun _ => lb_sc (by decide) rfl (by decide))) i1 (fun j hj => by
      rw [rw_ai_sA, if_pos rfl]
      by_cases z : j = k
      · rw [if_pos z, hv, z]
      · rw [if_neg z]; exact i2 j (by omega))
    by_cases c : 0 ≤ (e k).toInt32 ∧ (e k).toInt32 < Int32.ofNat G
    · rw [ra_p ⟨c.1, (nu_lem1 (by omega)).mpr c.2⟩, if_neg (by decide), aw_22 s0 (by omega), pu_bs]
      exact fin _ (by unfold sp_c; rw [if_pos c])
    · rw [ra_n (by rw [nu_lem1 (by omega)]; exact c), if_pos rfl, aw_22 s0 (by omega), pu_bs]
      exact fin _ (by unfold sp_c; rw [if_neg c])
theorem nu_min30 {n : Nat} (h : n ≤ 60) : (if Int32.ofNat n < (30 : Int32) then Int32.ofNat n else (30 : Int32)) = Int32.ofNat (min n 30) := by
  by_cases c : n < 30
  · rw [if_pos ((nl_gt_30 (by omega)).mpr c), Nat.min_eq_left (by omega)]
  · rw [if_neg (fun q => c ((nl_gt_30 (by omega)).mp q)), Nat.min_eq_right (by omega)]; rfl
theorem fx_takeRow {σ : ah_S} {b G a N : Nat} {ga : Nat → Nat} {V : sp_V} {lw : sp_W} {e : Nat → Int64} (hx : xk_ σ b ga V G lw) (hr : xr_ σ b a 0 N e) (hN : N ≤ 60) : pu_ok (F_X0_takeRow σ (some b) (some a)) (fun τ => ag_ b [12] σ τ ∧ xcm_ τ b G (fun i => (e i).toInt32) (min N 30)) := by
  have h0 := hx.1
  unfold F_X0_takeRow
  have el : ah_al_ σ (some a) = some (Int32.ofNat N) := by
    show (if ((decide (101 ≤ ah_tg σ a) && decide (ah_tg σ a ≤ 105)) || (decide (111 ≤ ah_tg σ a) && decide (ah_tg σ a ≤ 116))) = true then some (Int32.ofNat (ah_ln σ a)) else none) = _
    rw [show ah_tg σ a = 102 from hr.2.2.1, hr.2.2.2.1]; rfl
  rw [el, pu_bs, nu_min30 hN, sp_21 h0, pu_bs]
  have A1 : ag_ b [12] σ (ah_sI σ 21 b (Int32.ofNat (min N 30))) := ag_wI (ag_rf _ h0) (fun _ => lb_fo (by decide) rfl (by decide))
  refine fx_row13 hx hr hN (Nat.min_le_right _ _) (Nat.min_le_left _ _) (min N 30) 0 _ 1000 (by omega) (by omega) A1 ?_ (fun j hj => absurd hj (Nat.not_lt_zero _))
  rw [rw_fi_sI, if_pos rfl, if_pos rfl]
section
variable {σ : ah_S} {b nb d G : Nat} {ga ra ba kd : Nat → Nat} {hd : Nat → Int32} {sz : Nat → Nat} {el : sp_E} {V : sp_V} {lw : sp_W} {h : sp_H}
theorem rf_0 (e : hd d = -2) : sp_rf hd d = 0 := by
  unfold sp_rf
  rw [e, if_neg (by decide), if_pos rfl]
theorem rf_n (e : hd d ≠ -2) : sp_rf hd d < 0 ∧ sp_rf hd d ≠ 0 ∧ ¬ 0 ≤ sp_rf hd d := by
  unfold sp_rf
  split
  · exact ⟨by decide, by decide, by decide⟩
  · exact ⟨by decide, by decide, by decide⟩
theorem fx_takes (hx : xk_ σ b ga V G lw) (hs : xs_ σ b ra ba nb hd sz el) (hb : xb_ σ b ba nb kd) (hw : sw_ hd sz el nb) (h6 : d < 6) (e : hd d = -2) : pu_ok (F_X0_takes1Row σ (some b) (Int32.ofNat d)) (fun r => r.1 = 0 ∧ ag_ b [12] σ r.2 ∧ xcm_ r.2 b G (fun i => (el d i).toInt32) (min (sz d) 30)) := by
  have h0 := hx.1
  obtain ⟨r1, r2⟩ := (hs.1 d h6).2.2 0 (by decide) e
  unfold F_X0_takes1Row
  simp only [ss_0 h0, pu_bs, fx_lookAt h0 hs hb hw h6, pu_b2s, rf_0 e, if_true, sg_41 h0, al_74 h0 h6, r1]
  have eca : ah_ca σ 102 (some (ra d)) = some () := by
    show (if ah_tg σ (ra d) = 102 then some () else none) = _
    rw [if_pos (show ah_tg σ (ra d) = 102 from r2.2.2.1)]
  rw [eca, pu_bs]
  exact pu_bind (fx_takeRow hx r2 (hw d h6).1) (fun τ hτ => pu_ret ⟨rfl, hτ⟩)
theorem fx_takesN (hx : xk_ σ b ga V G lw) (hs : xs_ σ b ra ba nb hd sz el) (hb : xb_ σ b ba nb kd) (hw : sw_ hd sz el nb) (h6 : d < 6) (e : hd d ≠ -2) : F_X0_takes1Row σ (some b) (Int32.ofNat d) = some (sp_rf hd d, σ) := by
  have h0 := hx.1
  unfold F_X0_takes1Row
  simp only [ss_0 h0, pu_bs, fx_lookAt h0 hs hb hw h6, pu_b2s, if_neg (rf_n e).2.1]
theorem fm_stays28 {ρ : ah_S} {n : Nat} (hs : ms_ ρ b hd sz el) (h0 : sk_ok ρ b) (h6 : d < 6) (hn : n ≤ 30) : ∀ m k σ q, k + m = n → m < q → ag_ b [32] ρ σ → ah_fi σ 636 (b + 123) = Int32.ofNat n → (∀ j, j < k → ah_ai σ (b + 146) j = (el d j).toInt32) → pu_ok (F_X6_layStays_28 q σ (some (b + 123)) (Int32.ofNat d) (Int32.ofNat k)) (fun τ => ag_ b [32] ρ τ ∧ mst_ τ b (fun i => (el d i).toInt32) n) := by
  intro m
  induction m with
  | zero =>
    intro k σ q hk hq A i1 i2
    obtain ⟨q, rfl⟩ : ∃ z, q = z + 1 := ⟨q - 1, by omega⟩
    have s0 := ag_sk A
    unfold F_X6_layStays_28
    rw [si_636 s0, pu_bs, i1, if_pos (by rw [nu_ofle (by omega) (by omega)]; omega)]
    exact pu_ret ⟨A, i1, hn, fun j hj => i2 j (by omega)⟩
  | succ m ih =>
    intro k σ q hk hq A i1 i2
    obtain ⟨q, rfl⟩ : ∃ z, q = z + 1 := ⟨q - 1, by omega⟩
    have s0 := ag_sk A
    have hsσ := ms_ag A h0 (by decide) hs
    unfold F_X6_layStays_28
    rw [si_636 s0, pu_bs, i1, if_neg (by rw [nu_ofle (by omega) (by omega)]; omega)]
    simp only [sg_635 s0, sg_658 s0, pu_bs, nl_mu_60, nl_aa, al_161 s0 (show 60 * d + k < 360 by omega), (hsσ d h6).2.2 k (by omega), aw_146 s0 (show k < 30 by omega), nl_ar_1]
    refine ih (k + 1) _ q (by omega) (by omega) (ag_wA A (fun _ => lb_sc (by decide) rfl (by decide))) i1 (fun j hj => ?_)
    rw [rw_ai_sA, if_pos rfl]
    by_cases z : j = k
    · rw [if_pos z, z]
    · rw [if_neg z]; exact i2 j (by omega)
theorem fm_layStays (h0 : sk_ok σ b) (hs : ms_ σ b hd sz el) (hz : sz d ≤ 60) (h6 : d < 6) : pu_ok (F_X6_layStays σ (some (b + 123)) (Int32.ofNat d)) (fun τ => ag_ b [32] σ τ ∧ mst_ τ b (fun i => (el d i).toInt32) (min (sz d) 30)) := by
  have fin : ∀ v, v = Int32.ofNat (min (sz d) 30) → pu_ok (F_X6_layStays_28 1000 (ah_sI σ 636 (b + 123) v) (some (b + 123)) (Int32.ofNat d) (Int32.ofNat 0)) (fun τ => ag_ b [32] σ τ ∧ mst_ τ b (fun i => (el d i).toInt32) (min (sz d) 30)) := fun v hv => fm_stays28 hs h0 h6 (Nat.min_le_right _ _) (min (sz d) 30) 0 _ 1000 (by omega) (by omega) (ag_wI (ag_rf _ h0) (fun _ => lb_fo (by decide) rfl (by decide))) (by rw [rw_fi_sI, if_pos rfl, if_pos rfl, hv]) (fun j hj => absurd hj (Nat.not_lt_zero _))
  unfold F_X6_layStays
  simp only [sg_657 h0, pu_bs, al_160 h0 h6, (hs d h6).2.1, sp_636 h0]
  by_cases c : 30 ≤ sz d
  · rw [if_pos ((nl_le_30 (by omega)).mpr c)]
    exact fin _ (by rw [Nat.min_eq_right c]; rfl)
  · rw [if_neg (fun q => c ((nl_le_30 (by omega)).mp q))]
    exact fin _ (by rw [Nat.min_eq_left (by omega)])
theorem fm_keepHut (h0 : sk_ok σ b) (H : mh_ σ b 130 h) : pu_ok (F_X6_keepHut σ (some (b + 123))) (fun τ => ag_ b [31] σ τ ∧ mh_ τ b 145 h) := by
  have key : ∀ m k τ q, k + m = 48 → m < q → ag_ b [31] σ τ → (∀ j, j < k → ah_ai τ (b + 145) j = h j) → pu_ok (F_X6_keepHut_2 q τ (some (b + 123)) (Int32.ofNat k)) (fun τ => ag_ b [31] σ τ ∧ mh_ τ b 145 h) := by
    intro m
    induction m with
    | zero =>
      intro k τ q hk hq A i2
      obtain ⟨q, rfl⟩ : ∃ z, q = z + 1 := ⟨q - 1, by omega⟩
      unfold F_X6_keepHut_2
      rw [if_pos ((nl_le_48 (by omega)).mpr (by omega))]
      exact pu_ret ⟨A, fun j hj => i2 j (by omega)⟩
    | succ m ih =>
      intro k τ q hk hq A i2
      obtain ⟨q, rfl⟩ : ∃ z, q = z + 1 := ⟨q - 1, by omega⟩
      have s0 := ag_sk A
      have Hτ : mh_ τ b 130 h := mh_ag A h0 (by decide) (by decide) H
      unfold F_X6_keepHut_2
      rw [if_neg (fun z => by have := (nl_le_48 (by omega)).mp z; omega)]
      simp only [sg_634 s0, sg_611 s0, pu_bs, al_130 s0 (show k < 48 by omega), Hτ k (by omega), aw_145 s0 (show k < 48 by omega), nl_ar_1]
      refine ih (k + 1) _ q (by omega) (by omega) (ag_wA A (fun _ => lb_sc (by decide) rfl (by decide))) (fun j hj => ?_)
      rw [rw_ai_sA, if_pos rfl]
      by_cases z : j = k
      · rw [if_pos z, z]
      · rw [if_neg z]; exact i2 j (by omega)
  exact key 48 0 σ 1000 rfl (by decide) (ag_rf _ h0) (fun j hj => absurd hj (Nat.not_lt_zero _))
theorem fm_layHut (h0 : sk_ok σ b) (H : mh_ σ b 145 h) : pu_ok (F_X6_layHut σ (some (b + 123))) (fun τ => ag_ b [24] σ τ ∧ mh_ τ b 130 h) := by
  have key : ∀ m k τ q, k + m = 48 → m < q → ag_ b [24] σ τ → (∀ j, j < k → ah_ai τ (b + 130) j = h j) → pu_ok (F_X6_layHut_2 q τ (some (b + 123)) (Int32.ofNat k)) (fun τ => ag_ b [24] σ τ ∧ mh_ τ b 130 h) := by
    intro m
    induction m with
    | zero =>
      intro k τ q hk hq A i2
      obtain ⟨q, rfl⟩ : ∃ z, q = z + 1 := ⟨q - 1, by omega⟩
      unfold F_X6_layHut_2
      rw [if_pos ((nl_le_48 (by omega)).mpr (by omega))]
      exact pu_ret ⟨A, fun j hj => i2 j (by omega)⟩
    | succ m ih =>
      intro k τ q hk hq A i2
      obtain ⟨q, rfl⟩ : ∃ z, q = z + 1 := ⟨q - 1, by omega⟩
      have s0 := ag_sk A
      have Hτ : mh_ τ b 145 h := mh_ag A h0 (by decide) (by decide) H
      unfold F_X6_layHut_2
      rw [if_neg (fun z => by have := (nl_le_48 (by omega)).mp z; omega)]
      simp only [sg_634 s0, sg_611 s0, pu_bs, al_145 s0 (show k < 48 by omega), Hτ k (by omega), aw_130 s0 (show k < 48 by omega), nl_ar_1]
      refine ih (k + 1) _ q (by omega) (by omega) (ag_wA A (fun _ => lb_sc (by decide) rfl (by decide))) (fun j hj => ?_)
      rw [rw_ai_sA, if_pos rfl]
      by_cases z : j = k
      · rw [if_pos z, z]
      · rw [if_neg z]; exact i2 j (by omega)
  exact key 48 0 σ 1000 rfl (by decide) (ag_rf _ h0) (fun j hj => absurd hj (Nat.not_lt_zero _))
theorem fm_lacks {t : Nat} (h0 : sk_ok σ b) (hp : mp_ σ b V G) (H : mh_ σ b 130 h) (ht : t < 4) : F_X6_lacksOf σ (some (b + 123)) (Int32.ofNat t) = some (sp_lk V h t, σ) := by
  unfold F_X6_lacksOf sp_lk
  simp only [sg_611 h0, sg_601 h0, pu_bs, al_130 h0 (show t < 48 by omega), al_124 h0 ht, H t (by omega), hp.2.1 t ht]
  by_cases c : h t < V 0 t
  · rw [if_pos c, if_neg (fun q => absurd (Int32.lt_of_lt_of_le c q) Int32.lt_irrefl)]
  · rw [if_neg c, if_pos ((Int32.lt_or_le (h t) (V 0 t)).resolve_left c)]
theorem fm_loss (h0 : sk_ok σ b) (hp : mp_ σ b V G) (H : mh_ σ b 130 h) : F_X6_lossNow σ (some (b + 123)) = some (sp_ls V h, σ) := by
  have st : ∀ n x t, t < 4 → F_X6_lossNow_4 (n + 1) σ (some (b + 123)) x (Int32.ofNat t) = F_X6_lossNow_4 n σ (some (b + 123)) (x + sp_lk V h t * V 1 t) (Int32.ofNat (t + 1)) := by
    intro n x t ht
    show (if (4 : Int32) ≤ Int32.ofNat t then _ else _) = _
    rw [if_neg (by rw [nl_le_4 (by omega)]; omega)]
    simp only [ss_123 h0, pu_bs, fm_lacks h0 hp H ht, pu_b2s, sg_602 h0, al_125 h0 ht, hp.2.2.1 t ht, nl_ar_1]
  show F_X6_lossNow_4 (995 + 1 + 1 + 1 + 1 + 1) σ (some (b + 123)) 0 (Int32.ofNat 0) = _
  rw [st _ _ _ (by decide), st _ _ _ (by decide), st _ _ _ (by decide), st _ _ _ (by decide)]
  show (if (4 : Int32) ≤ Int32.ofNat 4 then _ else _) = _
  rw [if_pos (by decide)]
  rfl
end
