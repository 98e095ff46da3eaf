section
variable {σ : ah_S} {b G : Nat} {V : sp_V} {z : sp_Z}
/-- the model's world behind a change, ahead of the laying -/
def ck_ (σ : ah_S) (b k : Nat) (w n was v K : Int32) : ah_S := ah_sI (ah_sA (ah_sA (ah_sA (ah_sA σ (b + 131) k w) (b + 132) k n) (b + 133) k was) (b + 134) k v) 612 (b + 123) K
theorem ck_lA {j : Nat} (q1 : 131 ≤ j) (q2 : j < 135) (ρ : ah_S) : lb_a b ρ (b + j) ∈ [21] := by
  have : ∀ k, k < 135 → 131 ≤ k → sk_B.getD k 99 = 21 := by decide
  exact lb_sc (by omega) (this j q2 q1) (by decide)
theorem ck_ag {k : Nat} {w n was v K : Int32} (h0 : sk_ok σ b) : ag_ b [21] σ (ck_ σ b k w n was v K) := by
  have A1 := ag_wA (i := k) (v := w) (ag_rf [21] h0) (fun _ => ck_lA (b := b) (show 131 ≤ 131 by decide) (by decide) σ)
  have A2 := ag_wA (i := k) (v := n) A1 (fun _ => ck_lA (b := b) (show 131 ≤ 132 by decide) (by decide) σ)
  have A3 := ag_wA (i := k) (v := was) A2 (fun _ => ck_lA (b := b) (show 131 ≤ 133 by decide) (by decide) σ)
  have A4 := ag_wA (i := k) (v := v) A3 (fun _ => ck_lA (b := b) (show 131 ≤ 134 by decide) (by decide) σ)
  exact ag_wI A4 (fun _ => lb_fo (by decide) rfl (by decide))
theorem ck_612 {k : Nat} {w n was v K : Int32} : ah_fi (ck_ σ b k w n was v K) 612 (b + 123) = K := by
  unfold ck_; rw [rw_fi_sI, if_pos rfl, if_pos rfl]
theorem ck_613 {k : Nat} {w n was v K : Int32} : ah_fi (ck_ σ b k w n was v K) 613 (b + 123) = ah_fi σ 613 (b + 123) := by
  unfold ck_; rw [rw_fi_sI, if_neg (by decide), rw_fi_sA, rw_fi_sA, rw_fi_sA, rw_fi_sA]
theorem ck_131 {k j : Nat} {w n was v K : Int32} : ah_ai (ck_ σ b k w n was v K) (b + 131) j = if j = k then w else ah_ai σ (b + 131) j := by
  unfold ck_
  rw [rw_ai_sI, rw_ai_sA, if_neg (show ¬ b + 131 = b + 134 by omega), rw_ai_sA, if_neg (show ¬ b + 131 = b + 133 by omega), rw_ai_sA, if_neg (show ¬ b + 131 = b + 132 by omega), rw_ai_sA, if_pos rfl]
theorem ck_132 {k j : Nat} {w n was v K : Int32} : ah_ai (ck_ σ b k w n was v K) (b + 132) j = if j = k then n else ah_ai σ (b + 132) j := by
  unfold ck_
  rw [rw_ai_sI, rw_ai_sA, if_neg (show ¬ b + 132 = b + 134 by omega), rw_ai_sA, if_neg (show ¬ b + 132 = b + 133 by omega), rw_ai_sA, if_pos rfl, rw_ai_sA, if_neg (show ¬ b + 132 = b + 131 by omega)]
theorem ck_133 {k j : Nat} {w n was v K : Int32} : ah_ai (ck_ σ b k w n was v K) (b + 133) j = if j = k then was else ah_ai σ (b + 133) j := by
  unfold ck_
  rw [rw_ai_sI, rw_ai_sA, if_neg (show ¬ b + 133 = b + 134 by omega), rw_ai_sA, if_pos rfl, rw_ai_sA, if_neg (show ¬ b + 133 = b + 132 by omega), rw_ai_sA, if_neg (show ¬ b + 133 = b + 131 by omega)]
theorem ck_134 {k j : Nat} {w n was v K : Int32} : ah_ai (ck_ σ b k w n was v K) (b + 134) j = if j = k then v else ah_ai σ (b + 134) j := by
  unfold ck_
  rw [rw_ai_sI, rw_ai_sA, if_pos rfl, rw_ai_sA, if_neg (show ¬ b + 134 = b + 133 by omega), rw_ai_sA, if_neg (show ¬ b + 134 = b + 132 by omega), rw_ai_sA, if_neg (show ¬ b + 134 = b + 131 by omega)]
theorem ck_w {t k : Nat} {x : Int32} (h0 : sk_ok σ b) (hk : k < 40) (q1 : 131 ≤ t) (q2 : t < 135) : ah_wA σ 101 (some (b + t)) (Int32.ofNat k) x = some (ah_sA σ (b + t) k x) := by
  have : ∀ t, t < 135 → 131 ≤ t → sk_T.getD t 0 = 101 ∧ sk_N.getD t 0 = 40 := by decide
  exact sk_wA h0 (by omega) (this t q2 q1).1 (this t q2 q1).2 (by decide) hk
theorem ck_eq {k : Nat} {w n was v : Int32} (h0 : sk_ok σ b) (e1 : ah_fi σ 612 (b + 123) = Int32.ofNat k) (hk : k < 40) : F_X6_changes_121 σ (some (b + 123)) w n v was = (F_X6_lays (ck_ σ b k w n was v (Int32.ofNat (k + 1))) (some (b + 123)) w n v).bind fun τ => some (was, τ) := by
  have s1 : sk_ok (ah_sA σ (b + 131) k w) b := rk_sA.mpr h0
  have s2 : sk_ok (ah_sA (ah_sA σ (b + 131) k w) (b + 132) k n) b := rk_sA.mpr s1
  have s3 : sk_ok (ah_sA (ah_sA (ah_sA σ (b + 131) k w) (b + 132) k n) (b + 133) k was) b := rk_sA.mpr s2
  have s4 : sk_ok (ah_sA (ah_sA (ah_sA (ah_sA σ (b + 131) k w) (b + 132) k n) (b + 133) k was) (b + 134) k v) b := rk_sA.mpr s3
  have g0 : ah_gI σ 612 (some (b + 123)) = some (Int32.ofNat k) := by rw [si_612 h0, e1]
  have g1 : ah_gI (ah_sA σ (b + 131) k w) 612 (some (b + 123)) = some (Int32.ofNat k) := by rw [si_612 s1, rw_fi_sA, e1]
  have g2 : ah_gI (ah_sA (ah_sA σ (b + 131) k w) (b + 132) k n) 612 (some (b + 123)) = some (Int32.ofNat k) := by rw [si_612 s2, rw_fi_sA, rw_fi_sA, e1]
  have g3 : ah_gI (ah_sA (ah_sA (ah_sA σ (b + 131) k w) (b + 132) k n) (b + 133) k was) 612 (some (b + 123)) = some (Int32.ofNat k) := by rw [si_612 s3, rw_fi_sA, rw_fi_sA, rw_fi_sA, e1]
  have g4 : ah_gI (ah_sA (ah_sA (ah_sA (ah_sA σ (b + 131) k w) (b + 132) k n) (b + 133) k was) (b + 134) k v) 612 (some (b + 123)) = some (Int32.ofNat k) := by rw [si_612 s4, rw_fi_sA, rw_fi_sA, rw_fi_sA, rw_fi_sA, e1]
  have s5 : sk_ok (ck_ σ b k w n was v (Int32.ofNat (k + 1))) b := ag_sk (ck_ag h0)
  have p5 : ah_pI (ah_sA (ah_sA (ah_sA (ah_sA σ (b + 131) k w) (b + 132) k n) (b + 133) k was) (b + 134) k v) 612 (some (b + 123)) (Int32.ofNat k + 1) = some (ck_ σ b k w n was v (Int32.ofNat (k + 1))) := by rw [nu_of1, sp_612 s4]; rfl
  unfold F_X6_changes_121
  rw [sg_614 h0, pu_bs, g0, pu_bs, ck_w h0 hk (by decide) (by decide), pu_bs, sg_615 s1, pu_bs, g1, pu_bs, ck_w s1 hk (by decide) (by decide), pu_bs, sg_616 s2, pu_bs, g2, pu_bs, ck_w s2 hk (by decide) (by decide), pu_bs, sg_617 s3, pu_bs, g3, pu_bs, ck_w s3 hk (by decide) (by decide), pu_bs, g4, pu_bs, p5, pu_bs, ss_123 s5, pu_bs]
theorem lm_121 {c : sp_C} {k w n : Nat} {v was : Int32} (h0 : sk_ok σ b) (hG : G ≤ 7) (hp : mp_ σ b V G) (ht : sp_tl G w n) (e1 : ah_fi σ 612 (b + 123) = Int32.ofNat k) (hk : k < 40) (e2 : ah_fi σ 613 (b + 123) = Int32.ofNat 0) (e5 : ∀ j, j < k → ah_ai σ (b + 131) j = Int32.ofNat (c j).1 ∧ ah_ai σ (b + 132) j = Int32.ofNat (c j).2.1 ∧ ah_ai σ (b + 133) j = (c j).2.2.1 ∧ ah_ai σ (b + 134) j = (c j).2.2.2) : pu_ok (F_X6_changes_121 σ (some (b + 123)) (Int32.ofNat w) (Int32.ofNat n) v was) (fun r => r.1 = was ∧ ag_ b [20, 21] σ r.2 ∧ mp_ r.2 b (ah_u2 V w (sp_ix w n) v) G ∧ mch_ r.2 b (va_up c k (w, n, was, v)) (k + 1) (k + 1)) := by
  have A5 := ck_ag (k := k) (w := Int32.ofNat w) (n := Int32.ofNat n) (was := was) (v := v) (K := Int32.ofNat (k + 1)) h0
  have s5 := ag_sk A5
  rw [ck_eq h0 e1 hk]
  refine pu_bind (fm_lays s5 (mp_ag A5 h0 (by decide) hp) hG ht) ?_
  rintro υ ⟨B, M⟩
  refine pu_ret ⟨rfl, ag_tr (ag_mo (by decide) A5) (ag_mo (by decide) B), M, ?_, ?_, fun j hj => ?_⟩
  · rw [ag_fi B s5 (by decide) (by decide) (by decide), ck_612]
  · rw [ag_fi B s5 (by decide) (by decide) (by decide), ck_613, e2, Nat.sub_self]
  · rw [ag_ai B s5 (by decide) (by decide), ag_ai B s5 (by decide) (by decide), ag_ai B s5 (by decide) (by decide), ag_ai B s5 (by decide) (by decide), ck_131, ck_132, ck_133, ck_134]
    unfold va_up
    by_cases x : j = k
    · rw [if_pos x, if_pos x, if_pos x, if_pos x, if_pos x]; exact ⟨rfl, rfl, rfl, rfl⟩
    · rw [if_neg x, if_neg x, if_neg x, if_neg x, if_neg x]; exact e5 j (by omega)
theorem fm_changes {c : sp_C} {dn mn w n : Nat} {v : Int32} (h0 : sk_ok σ b) (hG : G ≤ 7) (hp : mp_ σ b V G) (ht : sp_tl G w n) (hd : dn ≤ mn) (hm : mn ≤ 40) (H : mch_ σ b c dn mn) (hne : V w (sp_ix w n) ≠ v) : pu_ok (F_X6_changes σ (some (b + 123)) (Int32.ofNat w) (Int32.ofNat n) v) (fun r => r.1 = V w (sp_ix w n) ∧ ag_ b [20, 21] σ r.2 ∧ mp_ r.2 b (ah_u2 V w (sp_ix w n) v) G ∧ mch_ r.2 b (sp_ca c dn (w, n, V w (sp_ix w n), v)) (sp_cd dn) (sp_cd dn)) := by
  obtain ⟨e1, e2, e5⟩ := H
  have A1 : ag_ b [21] σ (ah_sI σ 613 (b + 123) 0) := ag_wI (ag_rf _ h0) (fun _ => lb_fo (by decide) rfl (by decide))
  generalize h1 : ah_sI σ 613 (b + 123) 0 = σ1 at A1
  have s1 := ag_sk A1
  have f12 : ah_fi σ1 612 (b + 123) = Int32.ofNat dn := by rw [← h1, rw_fi_sI, if_neg (by decide)]; exact e1
  have f13 : ah_fi σ1 613 (b + 123) = Int32.ofNat 0 := by rw [← h1, rw_fi_sI, if_pos rfl, if_pos rfl]; rfl
  have a1 : ah_ai σ1 = ah_ai σ := by rw [← h1]; rfl
  unfold F_X6_changes sp_ca sp_cd
  rw [ss_123 h0, pu_bs, fm_value h0 hp hG ht, pu_b2s, if_neg hne, sp_613 h0, pu_bs, h1, si_612 s1, pu_bs, f12]
  by_cases c40 : dn = 40
  · have m40 : mn = 40 := by omega
    subst c40
    subst m40
    rw [if_pos (show Int32.ofNat 40 = 40 from rfl), if_pos rfl, if_pos rfl]
    have lA : ∀ j, 131 ≤ j → j < 135 → ∀ ρ : ah_S, lb_a b ρ (b + j) ∈ [21] := fun j q1 q2 ρ => by
      have : ∀ k, k < 135 → 131 ≤ k → sk_B.getD k 99 = 21 := by decide
      exact lb_sc (by omega) (this j q2 q1) (by decide)
    have key : ∀ m j τ f, j + m = 40 → 1 ≤ j → m < f → ag_ b [21] σ τ → ah_fi τ 612 (b + 123) = Int32.ofNat 40 → ah_fi τ 613 (b + 123) = Int32.ofNat 0 → (∀ a, 131 ≤ a → a < 135 → ∀ l, l < 40 → ah_ai τ (b + a) l = if l + 1 < j then ah_ai σ (b + a) (l + 1) else ah_ai σ (b + a) l) → pu_ok (F_X6_changes_34 F_X6_changes_121 f τ (some (b + 123)) (Int32.ofNat w) (Int32.ofNat n) v (V w (sp_ix w n)) (Int32.ofNat j)) (fun r => r.1 = V w (sp_ix w n) ∧ ag_ b [20, 21] σ r.2 ∧ mp_ r.2 b (ah_u2 V w (sp_ix w n) v) G ∧ mch_ r.2 b (fun k => if k = 39 then (w, n, V w (sp_ix w n), v) else c (k + 1)) 40 40) := by
      intro m
      induction m with
      | zero =>
        intro j τ f hj hj1 hf A g12 g13 I
        obtain ⟨f, rfl⟩ : ∃ z, f = z + 1 := ⟨f - 1, by omega⟩
        have sτ := ag_sk A
        unfold F_X6_changes_34
        rw [if_pos ((nl_le_40 (by omega)).mpr (by omega)), si_612 sτ, pu_bs, g12, show Int32.ofNat 40 - 1 = Int32.ofNat 39 from nu_s1, sp_612 sτ, pu_bs]
        have A3 : ag_ b [21] σ (ah_sI τ 612 (b + 123) (Int32.ofNat 39)) := ag_wI A (fun _ => lb_fo (by decide) rfl (by decide))
        refine pu_mono (lm_121 (c := fun k => c (k + 1)) (k := 39) (ag_sk A3) hG (mp_ag A3 h0 (by decide) hp) ht (by rw [rw_fi_sI, if_pos rfl, if_pos rfl]) (by decide) (by rw [rw_fi_sI, if_neg (by decide)]; exact g13) (fun l hl => ?_)) (fun r hr => ⟨hr.1, ag_tr (ag_mo (by decide) A3) hr.2.1, hr.2.2.1, ?_⟩)
        · rw [rw_ai_sI, I 131 (by decide) (by decide) l (by omega), I 132 (by decide) (by decide) l (by omega), I 133 (by decide) (by decide) l (by omega), I 134 (by decide) (by decide) l (by omega), if_pos (by omega), if_pos (by omega), if_pos (by omega), if_pos (by omega)]
          exact e5 (l + 1) (by omega)
        · have := hr.2.2.2
          have ec : va_up (fun k => c (k + 1)) 39 (w, n, V w (sp_ix w n), v) = fun k => if k = 39 then (w, n, V w (sp_ix w n), v) else c (k + 1) := rfl
          rw [ec] at this
          exact this
      | succ m ih =>
        intro j τ f hj hj1 hf A g12 g13 I
        obtain ⟨f, rfl⟩ : ∃ z, f = z + 1 := ⟨f - 1, by omega⟩
        obtain ⟨j, rfl⟩ : ∃ z, j = z + 1 := ⟨j - 1, by omega⟩
        have sτ := ag_sk A
        have B1 : ag_ b [21] σ (ah_sA τ (b + 131) j (ah_ai τ (b + 131) (j + 1))) := ag_wA A (fun _ => lA _ (by decide) (by decide) _)
        generalize k1 : ah_sA τ (b + 131) j (ah_ai τ (b + 131) (j + 1)) = τ1 at B1
        have t1 := ag_sk B1
        have B2 : ag_ b [21] σ (ah_sA τ1 (b + 132) j (ah_ai τ1 (b + 132) (j + 1))) := ag_wA B1 (fun _ => lA _ (by decide) (by decide) _)
        generalize k2 : ah_sA τ1 (b + 132) j (ah_ai τ1 (b + 132) (j + 1)) = τ2 at B2
        have t2 := ag_sk B2
        have B3 : ag_ b [21] σ (ah_sA τ2 (b + 133) j (ah_ai τ2 (b + 133) (j + 1))) := ag_wA B2 (fun _ => lA _ (by decide) (by decide) _)
        generalize k3 : ah_sA τ2 (b + 133) j (ah_ai τ2 (b + 133) (j + 1)) = τ3 at B3
        have t3 := ag_sk B3
        have B4 : ag_ b [21] σ (ah_sA τ3 (b + 134) j (ah_ai τ3 (b + 134) (j + 1))) := ag_wA B3 (fun _ => lA _ (by decide) (by decide) _)
        generalize k4 : ah_sA τ3 (b + 134) j (ah_ai τ3 (b + 134) (j + 1)) = τ4 at B4
        have ff : ah_fi τ4 = ah_fi τ := by rw [← k4, ← k3, ← k2, ← k1, rw_fi_sA, rw_fi_sA, rw_fi_sA, rw_fi_sA]
        have r1 : ∀ l, ah_ai τ4 (b + 131) l = if l = j then ah_ai τ (b + 131) (j + 1) else ah_ai τ (b + 131) l := fun l => by
          rw [← k4, rw_ai_sA, if_neg (by omega), ← k3, rw_ai_sA, if_neg (by omega), ← k2, rw_ai_sA, if_neg (by omega), ← k1, rw_ai_sA, if_pos rfl]
        have r2 : ∀ l, ah_ai τ4 (b + 132) l = if l = j then ah_ai τ (b + 132) (j + 1) else ah_ai τ (b + 132) l := fun l => by
          have q : ∀ x, ah_ai τ1 (b + 132) x = ah_ai τ (b + 132) x := fun x => by rw [← k1, rw_ai_sA, if_neg (by omega)]
          rw [← k4, rw_ai_sA, if_neg (by omega), ← k3, rw_ai_sA, if_neg (by omega), ← k2, rw_ai_sA, if_pos rfl, q, q]
        have r3 : ∀ l, ah_ai τ4 (b + 133) l = if l = j then ah_ai τ (b + 133) (j + 1) else ah_ai τ (b + 133) l := fun l => by
          have q : ∀ x, ah_ai τ2 (b + 133) x = ah_ai τ (b + 133) x := fun x => by rw [← k2, rw_ai_sA, if_neg (by omega), ← k1, rw_ai_sA, if_neg (by omega)]
          rw [← k4, rw_ai_sA, if_neg (by omega), ← k3, rw_ai_sA, if_pos rfl, q, q]
        have r4 : ∀ l, ah_ai τ4 (b + 134) l = if l = j then ah_ai τ (b + 134) (j + 1) else ah_ai τ (b + 134) l := fun l => by
          have q : ∀ x, ah_ai τ3 (b + 134) x = ah_ai τ (b + 134) x := fun x => by rw [← k3, rw_ai_sA, if_neg (by omega), ← k2, rw_ai_sA, if_neg (by omega), ← k1, rw_ai_sA, if_neg (by omega)]
          rw [← k4, rw_ai_sA, if_pos rfl, q, q]
        unfold F_X6_changes_34
        rw [if_neg (fun z => by have := (nl_le_40 (by omega)).mp z; omega), nu_s1, sg_614 sτ, pu_bs, pu_bs, al_131 sτ (by omega), pu_bs, aw_131 sτ (by omega), pu_bs, k1, sg_615 t1, pu_bs, pu_bs, al_132 t1 (by omega), pu_bs, aw_132 t1 (by omega), pu_bs, k2, sg_616 t2, pu_bs, pu_bs, al_133 t2 (by omega), pu_bs, aw_133 t2 (by omega), pu_bs, k3, sg_617 t3, pu_bs, pu_bs, al_134 t3 (by omega), pu_bs, aw_134 t3 (by omega), pu_bs, k4, nl_ar_1]
        refine ih (j + 1 + 1) τ4 f (by omega) (by omega) (by omega) B4 (by rw [ff]; exact g12) (by rw [ff]; exact g13) (fun a q1 q2 l hl => ?_)
        have st : ∀ l, ah_ai τ4 (b + a) l = if l = j then ah_ai τ (b + a) (j + 1) else ah_ai τ (b + a) l := by
          rcases (show a = 131 ∨ a = 132 ∨ a = 133 ∨ a = 134 by omega) with rfl | rfl | rfl | rfl
          · exact r1
          · exact r2
          · exact r3
          · exact r4
        rw [st l]
        by_cases x : l = j
        · rw [if_pos x, I a q1 q2 (j + 1) (by omega), if_neg (by omega), if_pos (by omega), x]
        · rw [if_neg x, I a q1 q2 l hl]
          by_cases y : l + 1 < j + 1
          · rw [if_pos y, if_pos (by omega)]
          · rw [if_neg y, if_neg (by omega)]
    exact key 39 1 σ1 1000 (by omega) (by omega) (by omega) A1 f12 f13 (fun a q1 q2 l hl => by rw [if_neg (by omega), a1])
  · rw [if_neg (fun q => c40 ((nl_eq_40 (by omega)).mp q)), if_neg c40, if_neg c40]
    exact pu_mono (lm_121 (c := c) s1 hG (mp_ag A1 h0 (by decide) hp) ht f12 (by omega) f13 (fun j hj => by rw [a1]; exact e5 j (by omega))) (fun r hr => ⟨hr.1, ag_tr (ag_mo (by decide) A1) hr.2.1, hr.2.2⟩)
end
