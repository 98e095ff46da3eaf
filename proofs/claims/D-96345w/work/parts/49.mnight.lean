theorem fm_ought {σ : ah_S} {b g t G : Nat} {V : sp_V} {h : sp_H} (h0 : sk_ok σ b) (hG : G ≤ 7) (hp : mp_ σ b V G) (hg : g < G) (ht : t < 4) (H : mh_ σ b 130 h) : F_X6_oughtBy σ (some (b + 123)) (Int32.ofNat g) (Int32.ofNat t) = some (sp_bl V g h t, σ) := by
  obtain ⟨p0, p1, p2, p3, p4, p5, p6, p7, p8, p9⟩ := hp
  unfold F_X6_oughtBy sp_bl
  simp only [sg_607 h0, sg_611 h0, sg_601 h0, pu_bs, al_129 h0 (show g < 7 by omega), p6 g hg, nl_ad_13, nl_ad_20, nl_ad_4, nl_ad_8, nl_mu_4, nl_aa, al_130 h0 (show 13 + g < 48 by omega), al_130 h0 (show 20 + 4 * g + t < 48 by omega), al_130 h0 (show t < 48 by omega), al_130 h0 (show 4 + t < 48 by omega), al_130 h0 (show 8 + t < 48 by omega), al_124 h0 ht, p1 t ht, H (13 + g) (by omega), H (20 + 4 * g + t) (by omega), H t (by omega), H (4 + t) (by omega), H (8 + t) (by omega)]
  rw [show ah_lA σ 101 (some (b + 130)) 12 = some (ah_ai σ (b + 130) 12) from al_130 (j := 12) h0 (by decide), H 12 (by decide), pu_bs, show 20 + 4 * g + t = 20 + (4 * g + t) by omega]
  by_cases c : V 5 g = 0
  · simp only [if_pos c]
    by_cases d : h (13 + g) = 0
    · simp only [if_pos d]
    · simp only [if_neg d]
  simp only [if_neg c]
  by_cases c : V 5 g = 1
  · simp only [if_pos c]
  simp only [if_neg c]
  by_cases c : V 5 g = 2
  · simp only [if_pos c]
  simp only [if_neg c]
  by_cases d : h 12 = 0
  · simp only [if_pos d]
  · simp only [if_neg d]
theorem fm_193 {σ : ah_S} {x y : Int32} : F_X6_levelBehind_193 σ x y = some (sp_99 (x + y), σ) := by
  unfold F_X6_levelBehind_193 sp_99
  split
  · split <;> rfl
  · rfl
theorem fm_20 {σ : ah_S} {x v : Int32} : (if (-20 : Int32) ≤ v then (if v ≤ (20 : Int32) then F_X6_levelBehind_193 σ x v else F_X6_levelBehind_193 σ x (20 : Int32)) else F_X6_levelBehind_193 σ x (-20 : Int32)) = some (sp_99 (x + sp_20 v), σ) := by
  simp only [fm_193]
  unfold sp_20
  split
  · split <;> rfl
  · rfl
theorem fm_level {σ : ah_S} {b g t G : Nat} {V : sp_V} {lw : sp_W} {h : sp_H} {o : Int32} (h0 : sk_ok σ b) (hG : G ≤ 7) (hp : mp_ σ b V G) (hw : mw_ σ b lw) (hg : g < G) (ht : t < 4) (H : mh_ σ b 130 h) : pu_ok (F_X6_levelBehind σ (some (b + 123)) (Int32.ofNat g) (Int32.ofNat t) o) (fun r => r.1 = sp_lf V lw g t (h t) o ∧ ag_ b [25, 54] σ r.2) := by
  obtain ⟨p0, p1, p2, p3, p4, p5, p6, p7, p8, p9⟩ := hp
  have key : pu_ok (F_X6_levelBehind_34 σ (some (b + 123)) (Int32.ofNat g) (Int32.ofNat t) o (h t) (sp_s V g)) (fun r => r.1 = sp_lf V lw g t (h t) o ∧ ag_ b [25, 54] σ r.2) := by
    unfold F_X6_levelBehind_34
    simp only [sg_604 h0, sg_605 h0, sg_629 h0, pu_bs, nl_mu_4, nl_aa, al_126 h0 (show 4 * g + t < 28 by omega), al_127 h0 (show 4 * g + t < 28 by omega), p3 (4 * g + t) (by omega), p4 (4 * g + t) (by omega), si_631 h0]
    rcases hw with ⟨w1, w2⟩ | ⟨w1, f, n, w2, w3, w4, w5⟩
    · simp only [w1, if_true, fm_20]
      unfold sp_lf sp_is
      rw [w2]
      by_cases c : o - h t ≤ sp_s V g
      · simp only [if_pos c]
        exact pu_ret ⟨rfl, ag_rf _ h0⟩
      · simp only [if_neg c]
        by_cases d : h t + (-(V 2 (4 * g + t)) + V 3 (4 * g + t)) ≤ o
        · simp only [if_pos d]
          exact pu_ret ⟨rfl, ag_rf _ h0⟩
        · simp only [if_neg d]
          exact pu_ret ⟨rfl, ag_rf _ h0⟩
    · rw [w1, if_neg (by decide)]
      simp (disch := first | assumption | (simp only [rk_sI, rk_sA, rk_sL, rk_cpI, rk_cpL]; assumption) | omega) only [sg_629, sg_604, sg_605, aw_141_0, aw_141_1, aw_141_2, aw_141_3, aw_141_4, aw_141_5, ss_123, pu_bs, al_126, al_127, rw_ai_sA]
      simp only [if_neg (show ¬ b + 126 = b + 141 by omega), if_neg (show ¬ b + 127 = b + 141 by omega), p3 (4 * g + t) (by omega), p4 (4 * g + t) (by omega)]
      generalize hσ' : ah_sA (ah_sA (ah_sA (ah_sA (ah_sA (ah_sA σ (b + 141) 0 (h t)) (b + 141) 1 o) (b + 141) 2 (V 2 (4 * g + t))) (b + 141) 3 (V 3 (4 * g + t))) (b + 141) 4 (sp_s V g)) (b + 141) 5 (Int32.ofNat t) = σ'
      have A : ag_ b [25] σ σ' := by
        have l11 : ∀ ρ : ah_S, lb_a b ρ (b + 141) ∈ [25] := fun ρ => lb_sc (by decide) rfl (by decide)
        rw [← hσ']
        exact ag_wA (ag_wA (ag_wA (ag_wA (ag_wA (ag_wA (ag_rf _ h0) (fun _ => l11 _)) (fun _ => l11 _)) (fun _ => l11 _)) (fun _ => l11 _)) (fun _ => l11 _)) (fun _ => l11 _)
      have hN : ∀ i, i < 6 → ah_ai σ' (b + 141) i = sp_N V g t (h t) o i := by
        intro i hi
        rw [← hσ']
        match i, hi with
        | 0, _ => simp [rw_ai_sA, sp_N]
        | 1, _ => simp [rw_ai_sA, sp_N]
        | 2, _ => simp [rw_ai_sA, sp_N]
        | 3, _ => simp [rw_ai_sA, sp_N]
        | 4, _ => simp [rw_ai_sA, sp_N]
        | 5, _ => simp [rw_ai_sA, sp_N]
      have s1 := ag_sk A
      have k : ∀ a, 136 ≤ a → a ≤ 140 → ah_ai σ' (b + a) = ah_ai σ (b + a) := fun a q1 q2 => funext fun i => ag_ai A h0 (by omega) (by
        have : ∀ a, a < 141 → 136 ≤ a → sk_B.getD a 99 ∉ [25] := by decide
        exact this a (by omega) q1) i
      have gv : pu_ok (F_X6_gives σ' (some (b + 123)) 0) (fun r => r.1 = f (sp_N V g t (h t) o) ∧ ag_ b [54] σ' r.2) := by
        unfold F_X6_gives
        rw [Int32.mul_zero]
        exact fm_gives n 0 0 f 1000 σ' s1 hN (k 136 (by decide) (by decide)) (k 137 (by decide) (by decide)) (k 139 (by decide) (by decide)) (k 140 (by decide) (by decide)) (by rw [k 138 (by decide) (by decide), w4, Nat.zero_add]) (by omega) (by omega) w5
      refine pu_b2 gv ?_
      rintro v τ ⟨rfl, Aτ⟩
      rw [fm_20]
      refine pu_ret ⟨?_, ag_tr (ag_mo (by simp) A) (ag_mo (by simp) Aτ)⟩
      unfold sp_lf sp_is
      rw [w2]
  unfold F_X6_levelBehind
  simp only [sg_611 h0, sg_606 h0, si_608 h0, pu_bs, al_130 h0 (show t < 48 by omega), H t (by omega), al_128 h0 (show g < 7 by omega), p5 g hg, p7]
  have es : sp_s V g = if V 6 0 < V 4 g then V 6 0 else V 4 g := rfl
  by_cases c : V 6 0 ≤ V 4 g
  · rw [if_pos c]
    by_cases d : V 6 0 < V 4 g
    · rw [es, if_pos d] at key; exact key
    · rw [es, if_neg d] at key
      rw [Int32.le_antisymm c ((Int32.lt_or_le (V 6 0) (V 4 g)).resolve_left d)]; exact key
  · rw [if_neg c]
    rw [es, if_neg (fun d => c (Int32.le_of_lt d))] at key; exact key
/-- the model's hut amid the second loop of a night -/
def sp_pt (V : sp_V) (lw : sp_W) (g : Nat) (h : sp_H) (t : Nat) : sp_H := fun i => if i < 4 then (if i < t then sp_nt V lw g h i else h i) else if i < 8 then (if i < 4 + t then sp_nt V lw g h i else h i) else if i < 12 then (if i < 8 + t then sp_nt V lw g h i else h i) else if 20 + 4 * g ≤ i ∧ i < 20 + (4 * g + t) then sp_nt V lw g h i else h i
theorem fm_night45 {ρ : ah_S} {b g G : Nat} {V : sp_V} {lw : sp_W} {h : sp_H} (h0 : sk_ok ρ b) (hG : G ≤ 7) (hp : mp_ ρ b V G) (hg : g < G) (i2 : ∀ j, j < 4 → ah_ai ρ (b + 143) j = sp_nt V lw g h j) (i3 : ∀ j, j < 4 → ah_ai ρ (b + 144) j = sp_bl V g h j) : ∀ m t σ n, t + m = 4 → m < n → ag_ b [24] ρ σ → mh_ σ b 130 (sp_pt V lw g h t) → pu_ok (F_X6_nightOf_45 n σ (some (b + 123)) (Int32.ofNat g) (Int32.ofNat t)) (fun τ => ag_ b [24] ρ τ ∧ mh_ τ b 130 (sp_nt V lw g h)) := by
  have lbh : ∀ ρ : ah_S, lb_a b ρ (b + 130) ∈ [24] := fun ρ => lb_sc (by decide) rfl (by decide)
  intro m
  induction m with
  | zero =>
    intro t σ n ht hn A i1
    obtain ⟨n, rfl⟩ : ∃ q, n = q + 1 := ⟨n - 1, by omega⟩
    have s0 := ag_sk A
    have ht4 : t = 4 := by omega
    subst ht4
    unfold F_X6_nightOf_45
    rw [if_pos (by decide)]
    simp (disch := first | assumption | (simp only [rk_sI, rk_sA, rk_sL, rk_cpI, rk_cpL]; assumption) | omega) only [sg_611, nl_ad_13, aw_130, pu_bs]
    rw [show ah_wA (ah_sA σ (b + 130) (13 + g) 1) 101 (some (b + 130)) 12 1 = some (ah_sA (ah_sA σ (b + 130) (13 + g) 1) (b + 130) 12 1) from aw_130 (σ := ah_sA σ (b + 130) (13 + g) 1) (j := 12) s0 (by decide), pu_bs]
    refine pu_ret ⟨ag_wA (ag_wA A (fun _ => lbh _)) (fun _ => lbh _), fun i hi => ?_⟩
    rw [rw_ai_sA, if_pos rfl, rw_ai_sA, if_pos rfl, i1 i hi]
    by_cases e : i = 12
    · rw [if_pos e, e, nt_12]
    · rw [if_neg e]
      by_cases e2 : i = 13 + g
      · rw [if_pos e2, e2, nt_bn (by omega), if_pos rfl]
      · rw [if_neg e2]
        unfold sp_pt
        by_cases c1 : i < 4
        · rw [if_pos c1, if_pos c1]
        · rw [if_neg c1]
          by_cases c2 : i < 8
          · rw [if_pos c2, if_pos (by omega)]
          · rw [if_neg c2]
            by_cases c3 : i < 12
            · rw [if_pos c3, if_pos (by omega)]
            · rw [if_neg c3]
              by_cases c4 : 20 + 4 * g ≤ i ∧ i < 20 + (4 * g + 4)
              · rw [if_pos c4]
              · rw [if_neg c4]
                unfold sp_nt
                rw [if_neg c1, if_neg c2, if_neg c3, if_neg e, if_neg e2, if_neg (by omega)]
  | succ m ih =>
    intro t σ n ht hn A i1
    obtain ⟨n, rfl⟩ : ∃ q, n = q + 1 := ⟨n - 1, by omega⟩
    have s0 := ag_sk A
    have ht4 : t < 4 := by omega
    have hpσ := mp_ag A h0 (by decide) hp
    have j2 : ah_ai σ (b + 143) t = sp_nt V lw g h t := by rw [ag_ai A h0 (by decide) (by decide)]; exact i2 t ht4
    have j3 : ah_ai σ (b + 144) t = sp_bl V g h t := by rw [ag_ai A h0 (by decide) (by decide)]; exact i3 t ht4
    have j4 : ah_ai σ (b + 129) g = V 5 g := hpσ.2.2.2.2.2.2.1 g hg
    have k13 : ah_ai σ (b + 130) (13 + g) = h (13 + g) := by
      rw [i1 _ (by omega)]
      unfold sp_pt
      rw [if_neg (by omega), if_neg (by omega), if_neg (by omega), if_neg (by omega)]
    have kt : ah_ai σ (b + 130) t = h t := by
      rw [i1 _ (by omega)]
      unfold sp_pt
      rw [if_pos ht4, if_neg (by omega)]
    have key : ∀ τ, ag_ b [24] ρ τ → (∀ i, i < 48 → ah_ai τ (b + 130) i = if i = 20 + (4 * g + t) then sp_nt V lw g h i else sp_pt V lw g h t i) → pu_ok (F_X6_nightOf_81 (F_X6_nightOf_45 n) τ (some (b + 123)) (Int32.ofNat g) (Int32.ofNat t)) (fun τ => ag_ b [24] ρ τ ∧ mh_ τ b 130 (sp_nt V lw g h)) := by
      intro τ Aτ hτ
      have sτ := ag_sk Aτ
      have hpτ := mp_ag Aτ h0 (by decide) hp
      have j2 : ah_ai τ (b + 143) t = sp_nt V lw g h t := by rw [ag_ai Aτ h0 (by decide) (by decide)]; exact i2 t ht4
      have j3 : ah_ai τ (b + 144) t = sp_bl V g h t := by rw [ag_ai Aτ h0 (by decide) (by decide)]; exact i3 t ht4
      have j4 : ah_ai τ (b + 129) g = V 5 g := hpτ.2.2.2.2.2.2.1 g hg
      unfold F_X6_nightOf_81
      simp (disch := first | assumption | (simp only [rk_sI, rk_sA, rk_sL, rk_cpI, rk_cpL]; assumption) | omega) only [sg_611, sg_632, sg_633, sg_607, al_143, al_144, al_129, aw_130, nl_ad_8, nl_ad_4, pu_bs, nl_ar_1, rw_ai_sA]
      simp only [if_neg (show ¬ b + 144 = b + 130 by omega), if_neg (show ¬ b + 143 = b + 130 by omega), if_neg (show ¬ b + 129 = b + 130 by omega), j2, j3, j4]
      by_cases c : V 5 g = 1
      · rw [if_pos c]
        refine ih (t + 1) _ n (by omega) (by omega) (ag_wA (ag_wA (ag_wA Aτ (fun _ => lbh _)) (fun _ => lbh _)) (fun _ => lbh _)) (fun i hi => ?_)
        rw [rw_ai_sA, if_pos rfl, rw_ai_sA, if_pos rfl, rw_ai_sA, if_pos rfl, hτ i hi]
        unfold sp_pt
        by_cases e1 : i = 4 + t
        · subst e1; rw [if_pos rfl, if_neg (by omega), if_pos (by omega), if_pos (by omega), nt_bk ht4, if_pos c]
        rw [if_neg e1]
        by_cases e2 : i = 8 + t
        · subst e2; rw [if_pos rfl, if_neg (by omega), if_neg (by omega), if_pos (by omega), if_pos (by omega), nt_ah ht4]
        rw [if_neg e2]
        by_cases e3 : i = t
        · subst e3; rw [if_pos rfl, if_pos (by omega), if_pos (by omega)]
        rw [if_neg e3]
        by_cases e4 : i = 20 + (4 * g + t)
        · rw [if_pos e4, if_neg (by omega), if_neg (by omega), if_neg (by omega), if_pos (by omega)]
        rw [if_neg e4]
        by_cases c1 : i < 4
        · rw [if_pos c1, if_pos c1]
          by_cases d : i < t
          · rw [if_pos d, if_pos (by omega)]
          · rw [if_neg d, if_neg (by omega)]
        rw [if_neg c1, if_neg c1]
        by_cases c2 : i < 8
        · rw [if_pos c2, if_pos c2]
          by_cases d : i < 4 + t
          · rw [if_pos d, if_pos (by omega)]
          · rw [if_neg d, if_neg (by omega)]
        rw [if_neg c2, if_neg c2]
        by_cases c3 : i < 12
        · rw [if_pos c3, if_pos c3]
          by_cases d : i < 8 + t
          · rw [if_pos d, if_pos (by omega)]
          · rw [if_neg d, if_neg (by omega)]
        rw [if_neg c3, if_neg c3]
        by_cases d : 20 + 4 * g ≤ i ∧ i < 20 + (4 * g + t)
        · rw [if_pos d, if_pos (by omega)]
        · rw [if_neg d, if_neg (by omega)]
      · rw [if_neg c]
        refine ih (t + 1) _ n (by omega) (by omega) (ag_wA (ag_wA Aτ (fun _ => lbh _)) (fun _ => lbh _)) (fun i hi => ?_)
        rw [rw_ai_sA, if_pos rfl, rw_ai_sA, if_pos rfl, hτ i hi]
        unfold sp_pt
        by_cases e2 : i = 8 + t
        · subst e2; rw [if_pos rfl, if_neg (by omega), if_neg (by omega), if_pos (by omega), if_pos (by omega), nt_ah ht4]
        rw [if_neg e2]
        by_cases e3 : i = t
        · subst e3; rw [if_pos rfl, if_pos (by omega), if_pos (by omega)]
        rw [if_neg e3]
        by_cases e4 : i = 20 + (4 * g + t)
        · rw [if_pos e4, if_neg (by omega), if_neg (by omega), if_neg (by omega), if_pos (by omega)]
        rw [if_neg e4]
        by_cases c1 : i < 4
        · rw [if_pos c1, if_pos c1]
          by_cases d : i < t
          · rw [if_pos d, if_pos (by omega)]
          · rw [if_neg d, if_neg (by omega)]
        rw [if_neg c1, if_neg c1]
        by_cases c2 : i < 8
        · rw [if_pos c2, if_pos c2]
          by_cases d : i < 4 + t
          · rw [if_pos d, if_pos (by omega)]
          · rw [if_neg d]
            by_cases d2 : i < 4 + (t + 1)
            · rw [if_pos d2]
              have : i = 4 + t := by omega
              subst this
              rw [nt_bk ht4, if_neg c]
            · rw [if_neg d2]
        rw [if_neg c2, if_neg c2]
        by_cases c3 : i < 12
        · rw [if_pos c3, if_pos c3]
          by_cases d : i < 8 + t
          · rw [if_pos d, if_pos (by omega)]
          · rw [if_neg d, if_neg (by omega)]
        rw [if_neg c3, if_neg c3]
        by_cases d : 20 + 4 * g ≤ i ∧ i < 20 + (4 * g + t)
        · rw [if_pos d, if_pos (by omega)]
        · rw [if_neg d, if_neg (by omega)]
    unfold F_X6_nightOf_45
    rw [if_neg (by rw [nl_le_4 (by omega)]; omega)]
    simp only [sg_611 s0, pu_bs, nl_ad_13, al_130 s0 (show 13 + g < 48 by omega), k13]
    by_cases c : h (13 + g) = 0
    · rw [if_pos c]
      simp only [sg_611 s0, pu_bs, nl_mu_4, nl_ad_20, nl_aa, al_130 s0 (show t < 48 by omega), kt, aw_130 s0 (show 20 + 4 * g + t < 48 by omega)]
      refine key _ (ag_wA A (fun _ => lbh _)) (fun i hi => ?_)
      rw [rw_ai_sA, if_pos rfl]
      by_cases e : i = 20 + (4 * g + t)
      · rw [if_pos (by omega), if_pos e, e, nt_fd (by omega) ht4 (by omega), if_pos rfl, if_pos c]
      · rw [if_neg (by omega), if_neg e]; exact i1 i hi
    · rw [if_neg c]
      refine key _ A (fun i hi => ?_)
      rw [i1 i hi]
      by_cases e : i = 20 + (4 * g + t)
      · rw [if_pos e, e, nt_fd (by omega) ht4 (by omega), if_pos rfl, if_neg c]
        unfold sp_pt
        rw [if_neg (by omega), if_neg (by omega), if_neg (by omega), if_neg (by omega)]
      · rw [if_neg e]
theorem fm_night2 {ρ : ah_S} {b g G : Nat} {V : sp_V} {lw : sp_W} {h : sp_H} (h0 : sk_ok ρ b) (hG : G ≤ 7) (hp : mp_ ρ b V G) (hw : mw_ ρ b lw) (hg : g < G) (H : mh_ ρ b 130 h) : ∀ m t σ n, t + m = 4 → m < n → ag_ b [25, 54, 55] ρ σ → (∀ j, j < t → ah_ai σ (b + 143) j = sp_nt V lw g h j) → (∀ j, j < t → ah_ai σ (b + 144) j = sp_bl V g h j) → pu_ok (F_X6_nightOf_2 n σ (some (b + 123)) (Int32.ofNat g) (Int32.ofNat t)) (fun τ => ag_ b [24, 25, 54, 55] ρ τ ∧ mh_ τ b 130 (sp_nt V lw g h)) := by
  intro m
  induction m with
  | zero =>
    intro t σ n ht hn A i2 i3
    obtain ⟨n, rfl⟩ : ∃ q, n = q + 1 := ⟨n - 1, by omega⟩
    have s0 := ag_sk A
    have ht4 : t = 4 := by omega
    subst ht4
    unfold F_X6_nightOf_2
    rw [if_pos (by decide)]
    refine pu_mono (fm_night45 s0 hG (mp_ag A h0 (by decide) hp) hg i2 i3 4 0 σ 1000 rfl (by decide) (ag_rf _ s0) (fun i hi => ?_)) (fun τ hτ => ⟨ag_tr (ag_mo (by simp) A) (ag_mo (by simp) hτ.1), hτ.2⟩)
    rw [ag_ai A h0 (by decide) (by decide), H i hi]
    unfold sp_pt
    by_cases c1 : i < 4
    · rw [if_pos c1, if_neg (by omega)]
    rw [if_neg c1]
    by_cases c2 : i < 8
    · rw [if_pos c2, if_neg (by omega)]
    rw [if_neg c2]
    by_cases c3 : i < 12
    · rw [if_pos c3, if_neg (by omega)]
    rw [if_neg c3, if_neg (by omega)]
  | succ m ih =>
    intro t σ n ht hn A i2 i3
    obtain ⟨n, rfl⟩ : ∃ q, n = q + 1 := ⟨n - 1, by omega⟩
    have s0 := ag_sk A
    have ht4 : t < 4 := by omega
    have hpσ := mp_ag A h0 (by decide) hp
    have hwσ := mw_ag A h0 (by decide) hw
    have Hσ : mh_ σ b 130 h := mh_ag A h0 (by decide) (by decide) H
    unfold F_X6_nightOf_2
    rw [if_neg (by rw [nl_le_4 (by omega)]; omega)]
    simp only [sg_633 s0, ss_123 s0, pu_bs, fm_ought s0 hG hpσ hg ht4 Hσ, pu_b2s, aw_144 s0 ht4]
    have A1 : ag_ b [25, 54, 55] ρ (ah_sA σ (b + 144) t (sp_bl V g h t)) := ag_wA A (fun _ => lb_sc (by decide) rfl (by decide))
    have s1 := ag_sk A1
    have hp1 := mp_ag A1 h0 (by decide) hp
    have hw1 := mw_ag A1 h0 (by decide) hw
    have H1 : mh_ _ b 130 h := mh_ag A1 h0 (by decide) (by decide) H
    simp only [sg_632 s1, sg_633 s1, pu_bs, al_144 s1 ht4, rw_ai_sA, if_true, ss_123 s1]
    refine pu_b2 (fm_level s1 hG hp1 hw1 hg ht4 H1) ?_
    rintro v τ ⟨rfl, Aτ⟩
    have sτ := ag_sk Aτ
    simp only [aw_143 sτ ht4, pu_bs, nl_ar_1]
    refine ih (t + 1) _ n (by omega) (by omega) (ag_wA (ag_tr A1 (ag_mo (by simp) Aτ)) (fun _ => lb_sc (by decide) rfl (by decide))) (fun j hj => ?_) (fun j hj => ?_)
    · rw [rw_ai_sA, if_pos rfl]
      by_cases e : j = t
      · subst e; rw [if_pos rfl, nt_lev ht4]
      · rw [if_neg e, ag_ai Aτ s1 (by decide) (by decide), rw_ai_sA, if_neg (by omega)]; exact i2 j (by omega)
    · rw [rw_ai_sA, if_neg (by omega), ag_ai Aτ s1 (by decide) (by decide), rw_ai_sA, if_pos rfl]
      by_cases e : j = t
      · subst e; rw [if_pos rfl]
      · rw [if_neg e]; exact i3 j (by omega)
theorem fm_nightOf {σ : ah_S} {b g G : Nat} {V : sp_V} {lw : sp_W} {h : sp_H} (h0 : sk_ok σ b) (hG : G ≤ 7) (hp : mp_ σ b V G) (hw : mw_ σ b lw) (hg : g < G) (H : mh_ σ b 130 h) : pu_ok (F_X6_nightOf σ (some (b + 123)) (Int32.ofNat g)) (fun τ => ag_ b [24, 25, 54, 55] σ τ ∧ mh_ τ b 130 (sp_nt V lw g h)) := fm_night2 h0 hG hp hw hg H 4 0 σ 1000 rfl (by decide) (ag_rf _ h0) (fun j hj => absurd hj (Nat.not_lt_zero _)) (fun j hj => absurd hj (Nat.not_lt_zero _))
theorem fm_isGuest {σ : ah_S} {b G : Nat} {V : sp_V} (x : Int32) (h0 : sk_ok σ b) (hp : mp_ σ b V G) : F_X6_isGuest σ (some (b + 123)) x = some (ra_ x 0 (Int32.ofNat G - 1), σ) := by
  unfold F_X6_isGuest
  simp only [si_603 h0, pu_bs, hp.1, fm_in_, pu_b2s, ra_z]
theorem fm_go {σ : ah_S} {b G : Nat} {V : sp_V} {lw : sp_W} {h : sp_H} (x : Int32) (h0 : sk_ok σ b) (hG : G ≤ 7) (hp : mp_ σ b V G) (hw : mw_ σ b lw) (H : mh_ σ b 130 h) : pu_ok (F_X6_goNight σ (some (b + 123)) x) (fun τ => ag_ b [24, 25, 54, 55] σ τ ∧ mh_ τ b 130 (sp_go V G lw x h)) := by
  unfold F_X6_goNight
  simp only [ss_123 h0, pu_bs, fm_isGuest x h0 hp, pu_b2s]
  unfold sp_go
  by_cases c : 0 ≤ x ∧ x < Int32.ofNat G
  · rw [if_pos c, if_neg (by rw [ra_0, nu_lem1 (by omega)]; exact fun q => q c)]
    obtain ⟨n, rfl, hn⟩ := nu_natl c.1 (by omega) c.2
    rw [nu_cl (by omega)]
    refine pu_bind (fm_nightOf h0 hG hp hw hn H) (fun v hv => pu_ret hv)
  · rw [if_neg c, if_pos (by rw [ra_0, nu_lem1 (by omega)]; exact c)]
    exact pu_ret ⟨ag_rf _ h0, H⟩
