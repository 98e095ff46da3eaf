/-! ===== the model's ways; the questions ===== -/
theorem sm_s {f : Nat → Nat} {m p : Nat} : sm_ f (m + 1) p = f p + sm_ f m (p + 1) := rfl
section
variable {σ : ah_S} {b nb G : Nat} {ga ra ba kd : Nat → Nat} {hd : Nat → Int32} {sz : Nat → Nat} {el : sp_E} {V : sp_V} {lw : sp_W} {h : sp_H} {s : Nat → Int32} {n : Nat}
theorem lm_ways {t N M a ag : Nat} {u : Nat → Int32} {Aq : Int32} (h4 : t < 4) (hM : M ≤ 6) (hMN : M ≤ N) (hA : ∀ k, k < M → (Int32.ofNat k = Aq ↔ k = a)) (hag : ag ≤ 7) : ∀ d k h σ, k ≤ M → M - k < d → mk_ σ b V G lw → mse_ σ b u N → ah_fi σ 646 (b + 123) = Aq → ah_fi σ 647 (b + 123) = Int32.ofNat ag → mh_ σ b 130 h → pu_ok (Z_X6_waysFrom d σ (some (b + 123)) (Int32.ofNat k) (Int32.ofNat M) (Int32.ofNat t)) (fun r => r.1 = Int32.ofNat (wy_ V G lw u t M a ag d k h) ∧ ag_ b [24, 25, 39, 54, 55] σ r.2 ∧ (∀ j, j < 48 * k → ah_ai r.2 (b + 153) j = ah_ai σ (b + 153) j)) := by
  intro d
  induction d with
  | zero => intro k h σ hk hd; omega
  | succ d ih =>
    intro k h σ hk hd hm hs f6 f7 H
    show pu_ok (F_X6_waysFrom (Z_X6_waysFrom d) σ (some (b + 123)) (Int32.ofNat k) (Int32.ofNat M) (Int32.ofNat t)) _
    have s0 := hm.1
    have hG := hm.2.1
    have hN := hs.2.1
    unfold F_X6_waysFrom wy_
    by_cases c : k = M
    · rw [if_pos (by rw [c]), if_pos c]
      exact pu_ret ⟨rfl, ag_rf _ s0, fun _ _ => rfl⟩
    · rw [if_neg c, if_neg (fun z => c ((nu_ofeq (by omega) (by omega)).mp z))]
      have kM : k < M := by omega
      have key48 : ∀ m g τ q x, g + m = G + 1 → m < q → ag_ b [24, 25, 39, 54, 55] σ τ → (∀ i, i < 48 → ah_ai τ (b + 153) (48 * k + i) = h i) → (∀ j, j < 48 * k → ah_ai τ (b + 153) j = ah_ai σ (b + 153) j) → pu_ok (F_X6_waysFrom_48 (Z_X6_waysFrom d) q τ (some (b + 123)) (Int32.ofNat k) (Int32.ofNat M) (Int32.ofNat t) (Int32.ofNat x) (Int32.ofNat g)) (fun r => r.1 = Int32.ofNat (x + sm_ (fun g => if k = a ∧ g ≠ ag then 0 else if u k = -1 ∨ u k = sp_go V G lw (Int32.ofNat g) h t then wy_ V G lw u t M a ag d (k + 1) (sp_go V G lw (Int32.ofNat g) h) else 0) m g) ∧ ag_ b [24, 25, 39, 54, 55] σ r.2 ∧ (∀ j, j < 48 * k → ah_ai r.2 (b + 153) j = ah_ai σ (b + 153) j)) := by
        intro m
        induction m with
        | zero =>
          intro g τ q x hg hq A R J
          obtain ⟨q, rfl⟩ : ∃ z, q = z + 1 := ⟨q - 1, by omega⟩
          have sτ := ag_sk A
          have hmτ := mk_ag A (by decide) hm
          unfold F_X6_waysFrom_48
          rw [si_603 sτ, pu_bs, hmτ.2.2.1.1, if_pos ((nu_oflt (by omega) (by omega)).mpr (by omega))]
          exact pu_ret ⟨rfl, A, J⟩
        | succ m ihm =>
          intro g τ q x hg hq A R J
          obtain ⟨q, rfl⟩ : ∃ z, q = z + 1 := ⟨q - 1, by omega⟩
          have sτ := ag_sk A
          have hmτ := mk_ag A (by decide) hm
          have f6τ : ah_fi τ 646 (b + 123) = Aq := by rw [← f6]; exact ag_fi A s0 (by decide) (by decide) (by decide)
          have f7τ : ah_fi τ 647 (b + 123) = Int32.ofNat ag := by rw [← f7]; exact ag_fi A s0 (by decide) (by decide) (by decide)
          have key80 : (k = a ∧ g ≠ ag → False) → ∀ m' i υ q', i + m' = 48 → m' < q' → ag_ b [24] τ υ → (∀ j, j < i → ah_ai υ (b + 130) j = h j) → pu_ok (F_X6_waysFrom_80 (Z_X6_waysFrom d) (F_X6_waysFrom_48 (Z_X6_waysFrom d) q) q' υ (some (b + 123)) (Int32.ofNat k) (Int32.ofNat M) (Int32.ofNat t) (Int32.ofNat x) (Int32.ofNat g) (Int32.ofNat i)) (fun r => r.1 = Int32.ofNat (x + sm_ (fun g => if k = a ∧ g ≠ ag then 0 else if u k = -1 ∨ u k = sp_go V G lw (Int32.ofNat g) h t then wy_ V G lw u t M a ag d (k + 1) (sp_go V G lw (Int32.ofNat g) h) else 0) (m + 1) g) ∧ ag_ b [24, 25, 39, 54, 55] σ r.2 ∧ (∀ j, j < 48 * k → ah_ai r.2 (b + 153) j = ah_ai σ (b + 153) j)) := by
            intro hna m'
            induction m' with
            | zero =>
              intro i υ q' hi hq' Aυ Hi
              obtain ⟨q', rfl⟩ : ∃ z, q' = z + 1 := ⟨q' - 1, by omega⟩
              have sυ := ag_sk Aυ
              have hmυ := mk_ag Aυ (by decide) hmτ
              have Hυ : mh_ υ b 130 h := fun j hj => Hi j (by omega)
              unfold F_X6_waysFrom_80
              rw [if_pos ((nl_le_48 (by omega)).mpr (by omega)), ss_123 sυ, pu_bs]
              refine pu_bind (fm_go (Int32.ofNat g) sυ hG hmυ.2.2.1 hmυ.2.2.2 Hυ) ?_
              rintro φ ⟨Aφ, Hφ⟩
              have sφ := ag_sk Aφ
              have hmφ := mk_ag Aφ (by decide) hmυ
              have Aσφ : ag_ b [24, 25, 39, 54, 55] σ φ := ag_tr A (ag_tr (ag_mo (by decide) Aυ) (ag_mo (by decide) Aφ))
              have Aτφ : ag_ b [24, 25, 54, 55] τ φ := ag_tr (ag_mo (by decide) Aυ) Aφ
              have hsφ := mse_ag Aσφ s0 (by decide) hs
              have f6φ : ah_fi φ 646 (b + 123) = Aq := by rw [← f6]; exact ag_fi Aσφ s0 (by decide) (by decide) (by decide)
              have f7φ : ah_fi φ 647 (b + 123) = Int32.ofNat ag := by rw [← f7]; exact ag_fi Aσφ s0 (by decide) (by decide) (by decide)
              have e153 : ∀ j, ah_ai φ (b + 153) j = ah_ai τ (b + 153) j := fun j => ag_ai Aτφ sτ (by decide) (by decide) j
              have deep : (u k = -1 ∨ u k = sp_go V G lw (Int32.ofNat g) h t) → pu_ok ((ah_is φ 7 (some (b + 123))).bind fun _ => ah_b2 (Z_X6_waysFrom d φ (some (b + 123)) (Int32.ofNat k + 1) (Int32.ofNat M) (Int32.ofNat t)) fun v6 σ7 => F_X6_waysFrom_48 (Z_X6_waysFrom d) q σ7 (some (b + 123)) (Int32.ofNat k) (Int32.ofNat M) (Int32.ofNat t) (Int32.ofNat x + v6) (Int32.ofNat g + 1)) (fun r => r.1 = Int32.ofNat (x + sm_ (fun g => if k = a ∧ g ≠ ag then 0 else if u k = -1 ∨ u k = sp_go V G lw (Int32.ofNat g) h t then wy_ V G lw u t M a ag d (k + 1) (sp_go V G lw (Int32.ofNat g) h) else 0) (m + 1) g) ∧ ag_ b [24, 25, 39, 54, 55] σ r.2 ∧ (∀ j, j < 48 * k → ah_ai r.2 (b + 153) j = ah_ai σ (b + 153) j)) := by
                intro hok
                rw [ss_123 sφ, pu_bs, nl_ar_1]
                refine pu_b2 (ih (k + 1) _ φ (by omega) (by omega) hmφ hsφ f6φ f7φ Hφ) ?_
                rintro v ψ ⟨rfl, Aψ, Jψ⟩
                dsimp only at Aψ Jψ ⊢
                rw [nl_aa, nl_ar_1]
                have := ihm (g + 1) ψ q (x + wy_ V G lw u t M a ag d (k + 1) (sp_go V G lw (Int32.ofNat g) h)) (by omega) (by omega) (ag_tr Aσφ Aψ) (fun i hi => by rw [Jψ _ (by omega), e153]; exact R i hi) (fun j hj => by rw [Jψ _ (by omega), e153]; exact J j hj)
                refine pu_mono this (fun r hr => ⟨?_, hr.2⟩)
                rw [hr.1]
                rw [sm_s, if_neg (fun z => hna z), if_pos hok]
                congr 1
                omega
              rw [sg_643 sφ, pu_bs, al_152 sφ (by omega), pu_bs, hsφ.2.2 k (by omega)]
              by_cases w1 : u k = -1
              · rw [if_pos w1]; exact deep (Or.inl w1)
              · rw [if_neg w1]
                simp only [pu_bs, al_152 sφ (show k < 60 by omega), hsφ.2.2 k (show k < N by omega), sg_611 sφ, al_130 sφ (show t < 48 by omega), Hφ t (by omega)]
                by_cases w2 : u k = sp_go V G lw (Int32.ofNat g) h t
                · rw [if_pos w2]; exact deep (Or.inr w2)
                · rw [if_neg w2, nl_ar_1]
                  refine pu_mono (ihm (g + 1) φ q x (by omega) (by omega) Aσφ (fun i hi => by rw [e153]; exact R i hi) (fun j hj => by rw [e153]; exact J j hj)) (fun r hr => ⟨?_, hr.2⟩)
                  rw [hr.1]
                  rw [sm_s]
                  rw [if_neg (fun z => hna z), if_neg (by rintro (z | z); exact w1 z; exact w2 z), Nat.zero_add]
            | succ m' ihm' =>
              intro i υ q' hi hq' Aυ Hi
              obtain ⟨q', rfl⟩ : ∃ z, q' = z + 1 := ⟨q' - 1, by omega⟩
              have sυ := ag_sk Aυ
              have e1 : ah_ai υ (b + 153) (48 * k + i) = h i := by rw [ag_ai Aυ sτ (by decide) (by decide)]; exact R i (by omega)
              unfold F_X6_waysFrom_80
              rw [if_neg (fun z => by have := (nl_le_48 (by omega)).mp z; omega)]
              simp only [sg_611 sυ, sg_645 sυ, pu_bs, nl_mu_48, nl_aa, al_153 sυ (show 48 * k + i < 336 by omega), e1, aw_130 sυ (show i < 48 by omega), nl_ar_1]
              refine ihm' (i + 1) _ q' (by omega) (by omega) (ag_wA Aυ (fun _ => lb_sc (by decide) rfl (by decide))) (fun j hj => ?_)
              rw [rw_ai_sA, if_pos rfl]
              by_cases z : j = i
              · rw [if_pos z, z]
              · rw [if_neg z]; exact Hi j (by omega)
          unfold F_X6_waysFrom_48
          rw [si_603 sτ, pu_bs, hmτ.2.2.1.1, if_neg (fun z => by have := (nu_oflt (by omega) (by omega)).mp z; omega), si_646 sτ, pu_bs, f6τ]
          by_cases w : k = a
          · rw [if_pos ((hA k kM).mpr w), si_647 sτ, pu_bs, f7τ]
            by_cases w2 : g = ag
            · rw [if_pos (by rw [w2])]
              exact key80 (fun z => z.2 w2) 48 0 τ 1000 (by omega) (by omega) (ag_rf _ sτ) (fun j hj => absurd hj (Nat.not_lt_zero _))
            · rw [if_neg (fun z => w2 ((nu_ofeq (by omega) (by omega)).mp z)), nl_ar_1]
              refine pu_mono (ihm (g + 1) τ q x (by omega) (by omega) A R J) (fun r hr => ⟨?_, hr.2⟩)
              rw [hr.1]
              rw [sm_s]
              rw [if_pos ⟨w, w2⟩, Nat.zero_add]
          · rw [if_neg (fun z => w ((hA k kM).mp z))]
            exact key80 (fun z => w z.1) 48 0 τ 1000 (by omega) (by omega) (ag_rf _ sτ) (fun j hj => absurd hj (Nat.not_lt_zero _))
      have key13 : ∀ m i τ q, i + m = 48 → m < q → ag_ b [39] σ τ → (∀ j, j < i → ah_ai τ (b + 153) (48 * k + j) = h j) → (∀ j, j < 48 * k → ah_ai τ (b + 153) j = ah_ai σ (b + 153) j) → pu_ok (F_X6_waysFrom_13 (Z_X6_waysFrom d) q τ (some (b + 123)) (Int32.ofNat k) (Int32.ofNat M) (Int32.ofNat t) (Int32.ofNat 0) (Int32.ofNat i)) (fun r => r.1 = Int32.ofNat (0 + sm_ (fun g => if k = a ∧ g ≠ ag then 0 else if u k = -1 ∨ u k = sp_go V G lw (Int32.ofNat g) h t then wy_ V G lw u t M a ag d (k + 1) (sp_go V G lw (Int32.ofNat g) h) else 0) (G + 1) 0) ∧ ag_ b [24, 25, 39, 54, 55] σ r.2 ∧ (∀ j, j < 48 * k → ah_ai r.2 (b + 153) j = ah_ai σ (b + 153) j)) := by
        intro m
        induction m with
        | zero =>
          intro i τ q hi hq A R J
          obtain ⟨q, rfl⟩ : ∃ z, q = z + 1 := ⟨q - 1, by omega⟩
          unfold F_X6_waysFrom_13
          rw [if_pos ((nl_le_48 (by omega)).mpr (by omega))]
          exact key48 (G + 1) 0 τ 1000 0 (by omega) (by omega) (ag_mo (by decide) A) (fun j hj => R j (by omega)) J
        | succ m ihm =>
          intro i τ q hi hq A R J
          obtain ⟨q, rfl⟩ : ∃ z, q = z + 1 := ⟨q - 1, by omega⟩
          have sτ := ag_sk A
          have e1 : ah_ai τ (b + 130) i = h i := by rw [ag_ai A s0 (by decide) (by decide)]; exact H i (by omega)
          unfold F_X6_waysFrom_13
          rw [if_neg (fun z => by have := (nl_le_48 (by omega)).mp z; omega)]
          simp only [sg_645 sτ, sg_611 sτ, pu_bs, al_130 sτ (show i < 48 by omega), e1, nl_mu_48, nl_aa, aw_153 sτ (show 48 * k + i < 336 by omega), nl_ar_1]
          refine ihm (i + 1) _ q (by omega) (by omega) (ag_wA A (fun _ => lb_sc (by decide) rfl (by decide))) (fun j hj => ?_) (fun j hj => ?_)
          · rw [rw_ai_sA, if_pos rfl]
            by_cases z : j = i
            · rw [if_pos (by omega), z]
            · rw [if_neg (by omega)]; exact R j (by omega)
          · rw [rw_ai_sA, if_pos rfl, if_neg (by omega)]; exact J j hj
      refine pu_mono (key13 48 0 σ 1000 (by omega) (by omega) (ag_rf _ s0) (fun j hj => absurd hj (Nat.not_lt_zero _)) (fun _ _ => rfl)) (fun r hr => ⟨?_, hr.2⟩)
      rw [hr.1, Nat.zero_add]
theorem fm_waysOf {t N M a ag : Nat} {u : Nat → Int32} {Aq : Int32} (h4 : t < 4) (hM : M ≤ 6) (hMN : M ≤ N) (hA : ∀ k, k < M → (Int32.ofNat k = Aq ↔ k = a)) (hag : ag ≤ 7) (hm : mk_ σ b V G lw) (hs : mse_ σ b u N) (H : mh_ σ b 130 h) : pu_ok (F_X6_waysOf σ (some (b + 123)) (Int32.ofNat M) (Int32.ofNat t) Aq (Int32.ofNat ag)) (fun r => r.1 = Int32.ofNat (wy_ V G lw u t M a ag 10 0 h) ∧ ag_ b [24, 25, 31, 39, 41, 54, 55] σ r.2 ∧ mh_ r.2 b 130 h) := by
  have s0 := hm.1
  unfold F_X6_waysOf
  have A1 : ag_ b [41] σ (ah_sI (ah_sI σ 646 (b + 123) Aq) 647 (b + 123) (Int32.ofNat ag)) := ag_wI (ag_wI (ag_rf _ s0) (fun _ => lb_fo (by decide) rfl (by decide))) (fun _ => lb_fo (by decide) rfl (by decide))
  have s1 := ag_sk A1
  rw [sp_646 s0, pu_bs, sp_647 (σ := ah_sI σ 646 (b + 123) Aq) s0, pu_bs, ss_123 s1, pu_bs]
  refine pu_bind (fm_keepHut s1 (mh_ag A1 s0 (by decide) (by decide) H)) ?_
  rintro τ ⟨A2, H2⟩
  have s2 := ag_sk A2
  have A3 : ag_ b [31, 41] σ τ := ag_tr (ag_mo (by decide) A1) (ag_mo (by decide) A2)
  have f6 : ah_fi τ 646 (b + 123) = Aq := by
    rw [ag_fi A2 s1 (by decide) (by decide) (by decide), rw_fi_sI, if_neg (by decide), rw_fi_sI, if_pos rfl, if_pos rfl]
  have f7 : ah_fi τ 647 (b + 123) = Int32.ofNat ag := by
    rw [ag_fi A2 s1 (by decide) (by decide) (by decide), rw_fi_sI, if_pos rfl, if_pos rfl]
  rw [ss_123 s2, pu_bs]
  refine pu_b2 (lm_ways h4 hM hMN hA hag 10 0 h τ (by omega) (by omega) (mk_ag A3 (by decide) hm) (mse_ag A3 s0 (by decide) hs) f6 f7 (mh_ag A3 s0 (by decide) (by decide) H)) ?_
  rintro v υ ⟨rfl, A4, -⟩
  dsimp only at A4 ⊢
  have s4 := ag_sk A4
  rw [ss_123 s4, pu_bs]
  refine pu_bind (fm_layHut s4 (mh_ag A4 s2 (by decide) (by decide) H2)) ?_
  rintro φ ⟨A5, H5⟩
  exact pu_ret ⟨rfl, ag_tr (ag_mo (by decide) A3) (ag_tr (ag_mo (by decide) A4) (ag_mo (by decide) A5)), H5⟩
/-- the class reads back -/
theorem fx_back {t a N : Nat} {e : Nat → Int64} (h4 : t < 4) (hN : N ≤ 60) (hx : xk_ σ b ga V G lw) (hr : xr_ σ b a 0 N e) (H : xh_ σ b 12 h) (hv : sp_hw h) : pu_ok (F_X0_readBack σ (some b) (some a) (Int32.ofNat t)) (fun τ => ag_ b LX_ σ τ ∧ ah_fi τ 32 b = Int32.ofNat (xy_ V G lw (fun i => (e i).toInt32) t (min N 6) 10 0 h (fun _ => 0) (0, fun _ => 0)).1 ∧ ∀ i, i < min N 6 → ah_ai τ (b + 63) i = Int32.ofNat ((xy_ V G lw (fun i => (e i).toInt32) t (min N 6) 10 0 h (fun _ => 0) (0, fun _ => 0)).2 i) ∧ (xy_ V G lw (fun i => (e i).toInt32) t (min N 6) 10 0 h (fun _ => 0) (0, fun _ => 0)).2 i < 256) := by
  have s0 := hx.1
  unfold F_X0_readBack
  rw [sp_32 s0, pu_bs]
  have key : ∀ m i τ q, i + m = 6 → m < q → ag_ b [17] σ τ → ah_fi τ 32 b = Int32.ofNat 0 → (∀ j, j < i → ah_ai τ (b + 63) j = Int32.ofNat 0) → pu_ok (F_X0_readBack_7 q τ (some b) (some a) (Int32.ofNat t) (Int32.ofNat i)) (fun τ => ag_ b LX_ σ τ ∧ ah_fi τ 32 b = Int32.ofNat (xy_ V G lw (fun i => (e i).toInt32) t (min N 6) 10 0 h (fun _ => 0) (0, fun _ => 0)).1 ∧ ∀ i, i < min N 6 → ah_ai τ (b + 63) i = Int32.ofNat ((xy_ V G lw (fun i => (e i).toInt32) t (min N 6) 10 0 h (fun _ => 0) (0, fun _ => 0)).2 i) ∧ (xy_ V G lw (fun i => (e i).toInt32) t (min N 6) 10 0 h (fun _ => 0) (0, fun _ => 0)).2 i < 256) := by
    intro m
    induction m with
    | zero =>
      intro i τ q hi hq A i1 i2
      obtain ⟨q, rfl⟩ : ∃ z, q = z + 1 := ⟨q - 1, by omega⟩
      have sτ := ag_sk A
      unfold F_X0_readBack_7
      rw [if_pos ((nl_le_6 (by omega)).mpr (by omega)), sg_29 sτ, pu_bs, show ah_lQ τ 114 (some (b + 27)) 0 = some (ah_ar τ (b + 27) 0) from al_27 (j := 0) sτ (by decide), pu_bs, sq_27_0 sτ, sg_18 sτ, pu_bs, hs_28 sτ, pu_bs]
      have m28 : 28 ∈ sk_H := by decide
      refine pu_bind (fx_beAs sτ m28 m12 (by decide) hv (xh_ag A s0 m12 (by decide) H)) ?_
      rintro υ ⟨A2, H2⟩
      have s2 := ag_sk A2
      have A2 : ag_ b [60] τ υ := A2
      have A3 : ag_ b [17, 60] σ υ := ag_tr (ag_mo (by decide) A) (ag_mo (by decide) A2)
      have hr2 := xr_ag A3 (by decide) hr
      have el : ah_al_ υ (some a) = some (Int32.ofNat N) := by
        show (if ((decide (101 ≤ ah_tg υ a) && decide (ah_tg υ a ≤ 105)) || (decide (111 ≤ ah_tg υ a) && decide (ah_tg υ a ≤ 116))) = true then some (Int32.ofNat (ah_ln υ a)) else none) = _
        rw [show ah_tg υ a = 102 from hr2.2.2.1, hr2.2.2.2.1]; rfl
      have em : (if Int32.ofNat N < (6 : Int32) then Int32.ofNat N else (6 : Int32)) = Int32.ofNat (min N 6) := by
        by_cases c : N < 6
        · rw [if_pos ((nl_gt_6 (by omega)).mpr c), Nat.min_eq_left (by omega)]
        · rw [if_neg (fun q => c ((nl_gt_6 (by omega)).mp q)), Nat.min_eq_right (by omega)]; rfl
      rw [el, pu_bs, ss_0 s2, pu_bs, em]
      have Z : xz_ υ b ga V G lw a N e (min N 6) 0 (fun _ => 0) (0, fun _ => 0) := ⟨xk_ag A3 (by decide) hx, hr2, fun j hj => ⟨by rw [ag_ai A2 sτ (by decide) (by decide)]; exact i2 j (by omega), by show 0 < 256; decide⟩, by rw [← i1]; exact ag_fi (k := 0) A2 sτ (by decide) (by decide) (by decide), fun j hj => absurd hj (Nat.not_lt_zero _)⟩
      refine pu_bind (lx_ways h4 (Nat.min_le_right _ _) (Nat.min_le_left _ _) hN 10 0 h (fun _ => 0) (0, fun _ => 0) υ (by omega) (by omega) Z H2 hv) ?_
      rintro φ ⟨A4, Z4, -⟩
      exact pu_ret ⟨ag_tr (ag_mo (by decide) A3) (ag_mo (by decide) A4), Z4.2.2.2.1, Z4.2.2.1⟩
    | succ m ih =>
      intro i τ q hi hq A i1 i2
      obtain ⟨q, rfl⟩ : ∃ z, q = z + 1 := ⟨q - 1, by omega⟩
      have sτ := ag_sk A
      unfold F_X0_readBack_7
      rw [if_neg (fun z => by have := (nl_le_6 (by omega)).mp z; omega), sg_30 sτ, pu_bs, aw_63 sτ (by omega), pu_bs, nl_ar_1]
      refine ih (i + 1) _ q (by omega) (by omega) (ag_wA A (fun _ => lb_sc (by decide) rfl (by decide))) i1 (fun j hj => ?_)
      rw [rw_ai_sA, if_pos rfl]
      by_cases z : j = i
      · rw [if_pos z]; rfl
      · rw [if_neg z]; exact i2 j (by omega)
  exact key 6 0 _ 1000 (by omega) (by omega) (ag_wI (ag_rf _ s0) (fun _ => lb_fo (by decide) rfl (by decide))) (by rw [rw_fi_sI, if_pos rfl, if_pos rfl]; rfl) (fun j hj => absurd hj (Nat.not_lt_zero _))
end
