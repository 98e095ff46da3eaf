/-! ===== mend ===== -/
def sp_ca (c : sp_C) (dn : Nat) (e : Nat × Nat × Int32 × Int32) : sp_C := if dn = 40 then (fun k => if k = 39 then e else c (k + 1)) else va_up c dn e
def sp_cd (dn : Nat) : Nat := if dn = 40 then 40 else dn + 1
section
variable {σ : ah_S} {b G : Nat} {ga : Nat → Nat} {V : sp_V} {z : sp_Z}
theorem sq_1 : ∀ q ∈ sk_Q, b + q.1 ≠ b + 1 := fun q hq => by
  have : ∀ q ∈ sk_Q, q.1 ≠ 1 := by decide
  have := this q hq
  omega
/-- the world behind a change -/
def bk_ (σ : ah_S) (b c0 a : Nat) (was v K : Int32) : ah_S := ah_sI (ah_sI (ah_sI (ah_sI (ah_sI (ah_sR σ 500 c0 (some a)) 501 c0 was) 502 c0 v) 200 a v) 2 b K) 1 b K
theorem bk_1 {c0 a : Nat} {was v K : Int32} : ah_fi (bk_ σ b c0 a was v K) 1 b = K := by
  unfold bk_; rw [rw_fi_sI, if_pos rfl, if_pos rfl]
theorem bk_2 {c0 a : Nat} {was v K : Int32} : ah_fi (bk_ σ b c0 a was v K) 2 b = K := by
  unfold bk_; rw [rw_fi_sI, if_neg (by decide), rw_fi_sI, if_pos rfl, if_pos rfl]
theorem bk_501 {c0 a p : Nat} {was v K : Int32} : ah_fi (bk_ σ b c0 a was v K) 501 p = if p = c0 then was else ah_fi σ 501 p := by
  unfold bk_
  rw [rw_fi_sI, if_neg (by decide), rw_fi_sI, if_neg (by decide), rw_fi_sI, if_neg (by decide), rw_fi_sI, if_neg (by decide), rw_fi_sI, if_pos rfl, rw_fi_sR]
theorem bk_502 {c0 a p : Nat} {was v K : Int32} : ah_fi (bk_ σ b c0 a was v K) 502 p = if p = c0 then v else ah_fi σ 502 p := by
  unfold bk_
  rw [rw_fi_sI, if_neg (by decide), rw_fi_sI, if_neg (by decide), rw_fi_sI, if_neg (by decide), rw_fi_sI, if_pos rfl, rw_fi_sI, if_neg (show ¬ (502 : Nat) = 501 by decide), rw_fi_sR]
theorem bk_500 {c0 a p : Nat} {was v K : Int32} : ah_fr (bk_ σ b c0 a was v K) 500 p = if p = c0 then some a else ah_fr σ 500 p := by
  unfold bk_
  rw [rw_fr_sI, rw_fr_sI, rw_fr_sI, rw_fr_sI, rw_fr_sI, rw_fr_sR, if_pos rfl]
theorem bk_ar {c0 a : Nat} {was v K : Int32} : ah_ar (bk_ σ b c0 a was v K) = ah_ar σ := rfl
theorem bk_ag {c0 a : Nat} {was v K : Int32} (h0 : sk_ok σ b) (hc : lb_a b σ c0 = 1) (ha : lb_a b σ a = 0) : ag_ b [0, 1] σ (bk_ σ b c0 a was v K) := by
  have A1 : ag_ b [0, 1] σ (ah_sR σ 500 c0 (some a)) := ag_wR (ag_rf _ h0) (fun _ => by decide) (by decide)
  have A2 := ag_wI (v := was) (f := 501) (a := c0) A1 (fun _ => by rw [lb_iy (by decide), hc]; decide)
  have A3 := ag_wI (v := v) (f := 502) (a := c0) A2 (fun _ => by rw [lb_iy (by decide), hc]; decide)
  have A4 := ag_wI (v := v) (f := 200) (a := a) A3 (fun _ => by rw [lb_iy (by decide), ha]; decide)
  exact ag_wI (ag_wI A4 (fun _ => lb_fo (by decide) rfl (by decide))) (fun _ => lb_fo (by decide) rfl (by decide))
theorem bk_xp {c0 w i : Nat} {was v K : Int32} (h0 : sk_ok σ b) (hc : lb_a b σ c0 = 1) (hp : xp_ σ b ga V G) (hv : sp_vd G w i) : xp_ (bk_ σ b c0 (xa_ b ga w i) was v K) b ga (ah_u2 V w i v) G := by
  have A1 : ag_ b [1] σ (ah_sR σ 500 c0 (some (xa_ b ga w i))) := ag_wR (ag_rf _ h0) (fun _ => by decide) (by decide)
  have A2 := ag_wI (v := was) (f := 501) (a := c0) A1 (fun _ => by rw [lb_iy (by decide), hc]; decide)
  have A3 := ag_wI (v := v) (f := 502) (a := c0) A2 (fun _ => by rw [lb_iy (by decide), hc]; decide)
  have X := xp_up (v := v) (xp_ag A3 h0 (by decide) (by decide) hp) hv
  have s3 := ag_sk A3
  have B : ag_ b [1] (ah_sI (ah_sI (ah_sI (ah_sR σ 500 c0 (some (xa_ b ga w i))) 501 c0 was) 502 c0 v) 200 (xa_ b ga w i) v) (bk_ σ b c0 (xa_ b ga w i) was v K) := ag_wI (ag_wI (ag_rf _ s3) (fun _ => lb_fo (by decide) rfl (by decide))) (fun _ => lb_fo (by decide) rfl (by decide))
  exact xp_ag B s3 (by decide) (by decide) X
theorem bk_eq {k c0 a : Nat} {v was : Int32} (h0 : sk_ok σ b) (e1 : ah_fi σ 2 b = Int32.ofNat k) (hk : k < 40) (e3 : ah_ar σ (b + 1) k = some c0) (tc : ah_tg σ c0 = 6) (ta : ah_tg σ a = 3) : F_X0_become_80 σ (some b) (some a) v was = some (was, bk_ σ b c0 a was v (Int32.ofNat (k + 1))) := by
  have s1 : sk_ok (ah_sR σ 500 c0 (some a)) b := rk_sR h0 (by decide)
  have s4 : sk_ok (ah_sI (ah_sI (ah_sI (ah_sR σ 500 c0 (some a)) 501 c0 was) 502 c0 v) 200 a v) b := rk_sI.mpr (rk_sI.mpr (rk_sI.mpr s1))
  have f2 : ah_fi (ah_sI (ah_sI (ah_sI (ah_sR σ 500 c0 (some a)) 501 c0 was) 502 c0 v) 200 a v) 2 b = Int32.ofNat k := by rw [rw_fi_sI, if_neg (by decide), rw_fi_sI, if_neg (by decide), rw_fi_sI, if_neg (by decide), rw_fi_sR]; exact e1
  have w1 : ah_pR σ 500 (some c0) (some a) = some (ah_sR σ 500 c0 (some a)) := dy_pR tc (by decide)
  have w2 : ah_pI (ah_sR σ 500 c0 (some a)) 501 (some c0) was = some (ah_sI (ah_sR σ 500 c0 (some a)) 501 c0 was) := dy_pI (t := 6) (by rw [rw_tg_sR]; exact tc) (by decide)
  have w3 : ah_pI (ah_sI (ah_sR σ 500 c0 (some a)) 501 c0 was) 502 (some c0) v = some (ah_sI (ah_sI (ah_sR σ 500 c0 (some a)) 501 c0 was) 502 c0 v) := dy_pI (t := 6) (by rw [rw_tg_sI, rw_tg_sR]; exact tc) (by decide)
  have w4 : ah_pI (ah_sI (ah_sI (ah_sR σ 500 c0 (some a)) 501 c0 was) 502 c0 v) 200 (some a) v = some (ah_sI (ah_sI (ah_sI (ah_sR σ 500 c0 (some a)) 501 c0 was) 502 c0 v) 200 a v) := dy_pI (t := 3) (by rw [rw_tg_sI, rw_tg_sI, rw_tg_sR]; exact ta) (by decide)
  unfold F_X0_become_80
  rw [sg_0 h0, pu_bs, si_2 h0, pu_bs, e1, al_1 h0 hk, pu_bs, e3, w1, pu_bs, w2, pu_bs, w3, pu_bs, w4, pu_bs, si_2 s4, pu_bs, f2, nu_of1, sp_2 s4, pu_bs, sp_1 (σ := ah_sI (ah_sI (ah_sI (ah_sI (ah_sR σ 500 c0 (some a)) 501 c0 was) 502 c0 v) 200 a v) 2 b (Int32.ofNat (k + 1))) (rk_sI.mpr s4), pu_bs]
  unfold bk_
  rfl
theorem lx_b80 {ca : Nat → Nat} {c : sp_C} {k w n : Nat} {v was : Int32} (h0 : sk_ok σ b) (hp : xp_ σ b ga V G) (hv : sp_vd G w (sp_ix w n)) (e1 : ah_fi σ 2 b = Int32.ofNat k) (hk : k < 40) (e3 : ∀ k, k < 40 → ah_ar σ (b + 1) k = some (b + (75 + ca k)) ∧ ca k < 40) (e4 : ∀ j k, j < 40 → k < 40 → ca j = ca k → j = k) (e5 : ∀ k', k' < k → ah_fr σ 500 (b + (75 + ca k')) = some (xa_ b ga (c k').1 (sp_ix (c k').1 (c k').2.1)) ∧ ah_fi σ 501 (b + (75 + ca k')) = (c k').2.2.1 ∧ ah_fi σ 502 (b + (75 + ca k')) = (c k').2.2.2) : pu_ok (F_X0_become_80 σ (some b) (some (xa_ b ga w (sp_ix w n))) v was) (fun r => r.1 = was ∧ ag_ b [0, 1] σ r.2 ∧ xp_ r.2 b ga (ah_u2 V w (sp_ix w n) v) G ∧ xch_ r.2 b ga (va_up c k (w, n, was, v)) (k + 1) (k + 1)) := by
  obtain ⟨t1, t2, t3⟩ := xa_ok h0 hp.2.2.1 hv
  have hc := (e3 k hk).2
  have tg : ah_tg σ (b + (75 + ca k)) = 6 := by rw [h0.2.1 _ (by omega)]; exact (ch_lb _ hc).2
  have lc : lb_a b σ (b + (75 + ca k)) = 1 := by rw [lb_st (by omega), (ch_lb _ hc).1]
  refine ⟨_, bk_eq h0 e1 hk (e3 k hk).1 tg t1, rfl, bk_ag h0 lc t3, bk_xp h0 lc hp hv, bk_2, bk_1, ca, fun j hj => ?_, e4, fun j hj => ?_⟩
  · rw [bk_ar]; exact e3 j hj
  · rw [bk_500, bk_501, bk_502]
    unfold va_up
    by_cases w' : j = k
    · subst w'
      rw [if_pos rfl, if_pos rfl, if_pos rfl, if_pos rfl]
      exact ⟨rfl, rfl, rfl⟩
    · have ne : ¬ b + (75 + ca j) = b + (75 + ca k) := fun q => w' (e4 j k (by omega) (by omega) (by omega))
      rw [if_neg ne, if_neg ne, if_neg ne, if_neg w']
      exact e5 j (by omega)
theorem fx_become {c : sp_C} {dn mn w n : Nat} {v : Int32} (h0 : sk_ok σ b) (hp : xp_ σ b ga V G) (hv : sp_vd G w (sp_ix w n)) (hd : dn ≤ mn) (hm : mn ≤ 40) (H : xch_ σ b ga c dn mn) (hne : V w (sp_ix w n) ≠ v) : pu_ok (F_X0_become σ (some b) (some (xa_ b ga w (sp_ix w n))) v) (fun r => r.1 = V w (sp_ix w n) ∧ ag_ b [0, 1] σ r.2 ∧ xp_ r.2 b ga (ah_u2 V w (sp_ix w n) v) G ∧ xch_ r.2 b ga (sp_ca c dn (w, n, V w (sp_ix w n), v)) (sp_cd dn) (sp_cd dn)) := by
  obtain ⟨t1, t2, t3⟩ := xa_ok h0 hp.2.2.1 hv
  obtain ⟨e1, e2, ca, e3, e4, e5⟩ := H
  unfold F_X0_become sp_ca sp_cd
  rw [dy_gI t1 (by decide), pu_bs, hp.2.2.2.2 w _ hv, if_neg hne, si_2 h0, pu_bs, e1]
  by_cases c40 : dn = 40
  · have m40 : mn = 40 := by omega
    subst c40
    subst m40
    rw [if_pos (show Int32.ofNat 40 = 40 from rfl), if_pos rfl, if_pos rfl, sg_0 h0, pu_bs, show ah_lQ σ 111 (some (b + 1)) 0 = some (ah_ar σ (b + 1) 0) from al_1 (j := 0) h0 (by decide), pu_bs, (e3 0 (by decide)).1]
    have key : ∀ m j τ f, j + m = 40 → 1 ≤ j → m < f → ag_ b [1] σ τ → (∀ a i, a ≠ b + 1 → ah_ar τ a i = ah_ar σ a i) → ah_fi τ = ah_fi σ → ah_fr τ = ah_fr σ → (∀ l, l < 40 → ah_ar τ (b + 1) l = some (b + (75 + (if l + 1 < j then ca (l + 1) else ca l)))) → pu_ok (F_X0_become_32 F_X0_become_80 f τ (some b) (some (xa_ b ga w (sp_ix w n))) v (V w (sp_ix w n)) (some (b + (75 + ca 0))) (Int32.ofNat j)) (fun r => r.1 = V w (sp_ix w n) ∧ ag_ b [0, 1] σ r.2 ∧ xp_ r.2 b ga (ah_u2 V w (sp_ix w n) v) G ∧ xch_ r.2 b ga (fun k => if k = 39 then (w, n, V w (sp_ix w n), v) else c (k + 1)) 40 40) := by
      intro m
      induction m with
      | zero =>
        intro j τ f hj hj1 hf A ar fi fr I
        obtain ⟨f, rfl⟩ : ∃ z, f = z + 1 := ⟨f - 1, by omega⟩
        have sτ := ag_sk A
        have tg0 : ah_tg τ (b + (75 + ca 0)) = 6 := by rw [sτ.2.1 _ (by have := (e3 0 (by decide)).2; omega)]; exact (ch_lb _ (e3 0 (by decide)).2).2
        unfold F_X0_become_32
        rw [if_pos ((nl_le_40 (by omega)).mpr (by omega)), sg_0 sτ, pu_bs, show ah_wQ τ 111 (some (b + 1)) 39 (some (b + (75 + ca 0))) = some (ah_sQ τ (b + 1) 39 (some (b + (75 + ca 0)))) from aw_1 (j := 39) sτ (by decide) (fun q hq => by cases hq; rw [tg0]; rfl), pu_bs]
        have A2 : ag_ b [1] σ (ah_sQ τ (b + 1) 39 (some (b + (75 + ca 0)))) := ag_wQ A (fun _ => lb_sc (by decide) rfl (by decide)) sq_1
        have s2 := ag_sk A2
        have f2 : ah_fi (ah_sQ τ (b + 1) 39 (some (b + (75 + ca 0)))) 2 b = Int32.ofNat (39 + 1) := by rw [rw_fi_sQ, fi]; exact e1
        rw [si_2 s2, pu_bs, f2, nu_s1, sp_2 s2, pu_bs]
        have A3 : ag_ b [1] σ (ah_sI (ah_sQ τ (b + 1) 39 (some (b + (75 + ca 0)))) 2 b (Int32.ofNat 39)) := ag_wI A2 (fun _ => lb_fo (by decide) rfl (by decide))
        refine pu_mono (lx_b80 (c := fun k => c (k + 1)) (k := 39) (ca := fun l => if l < 39 then ca (l + 1) else ca 0) (ag_sk A3) (xp_ag A3 h0 (by decide) (by decide) hp) hv (by rw [rw_fi_sI, if_pos rfl, if_pos rfl]) (by decide) (fun l hl => ?_) (fun i l hi hl q => ?_) (fun l hl => ?_)) (fun r hr => ⟨hr.1, ag_tr (ag_mo (by decide) A3) hr.2.1, hr.2.2.1, ?_⟩)
        · rw [rw_ar_sI, rw_ar_sQ, if_pos rfl]
          by_cases z : l = 39
          · rw [if_pos z, if_neg (by omega)]; exact ⟨rfl, (e3 0 (by decide)).2⟩
          · rw [if_neg z, I l hl, if_pos (by omega), if_pos (by omega)]; exact ⟨rfl, (e3 _ (by omega)).2⟩
        · by_cases z1 : i < 39
          · by_cases z2 : l < 39
            · rw [if_pos z1, if_pos z2] at q
              have := e4 _ _ (by omega) (by omega) q
              omega
            · rw [if_pos z1, if_neg z2] at q
              have := e4 _ _ (by omega) (by omega) q
              omega
          · by_cases z2 : l < 39
            · rw [if_neg z1, if_pos z2] at q
              have := e4 _ _ (by omega) (by omega) q
              omega
            · omega
        · rw [if_pos hl, rw_fr_sI, rw_fr_sQ, fr, rw_fi_sI, if_neg (by decide), rw_fi_sI, if_neg (by decide), rw_fi_sQ, fi]
          exact e5 (l + 1) (by omega)
        · have := hr.2.2.2
          have ec : va_up (fun k => c (k + 1)) 39 (w, n, V w (sp_ix w n), v) = fun k => if k = 39 then (w, n, V w (sp_ix w n), v) else c (k + 1) := rfl
          rw [ec] at this
          exact this
      | succ m ih =>
        intro j τ f hj hj1 hf A ar fi fr I
        obtain ⟨f, rfl⟩ : ∃ z, f = z + 1 := ⟨f - 1, by omega⟩
        obtain ⟨j, rfl⟩ : ∃ z, j = z + 1 := ⟨j - 1, by omega⟩
        have sτ := ag_sk A
        have hcj := (e3 (j + 1) (by omega)).2
        have tgj : ah_tg τ (b + (75 + ca (j + 1))) = 6 := by rw [sτ.2.1 _ (by omega)]; exact (ch_lb _ hcj).2
        unfold F_X0_become_32
        rw [if_neg (fun z => by have := (nl_le_40 (by omega)).mp z; omega)]
        simp only [sg_0 sτ, pu_bs, al_1 sτ (show j + 1 < 40 by omega), nu_s1, nl_ar_1]
        rw [I (j + 1) (by omega), if_neg (by omega), aw_1 (j := j) sτ (by omega) (fun q hq => by cases hq; rw [tgj]; rfl), pu_bs]
        refine ih (j + 1 + 1) _ f (by omega) (by omega) (by omega) (ag_wQ A (fun _ => lb_sc (by decide) rfl (by decide)) sq_1) (fun a i ha => by rw [rw_ar_sQ, if_neg ha]; exact ar a i ha) fi fr (fun l hl => ?_)
        rw [rw_ar_sQ, if_pos rfl]
        by_cases z : l = j
        · rw [if_pos z, if_pos (by omega), z]
        · rw [if_neg z, I l hl]
          by_cases z2 : l + 1 < j + 1
          · rw [if_pos z2, if_pos (by omega)]
          · rw [if_neg z2, if_neg (by omega)]
    exact key 39 1 σ 1000 (by omega) (by omega) (by omega) (ag_rf _ h0) (fun _ _ _ => rfl) rfl rfl (fun l hl => by rw [if_neg (by omega)]; exact (e3 l hl).1)
  · rw [if_neg (fun q => c40 ((nl_eq_40 (by omega)).mp q)), if_neg c40, if_neg c40]
    exact lx_b80 h0 hp hv e1 (by omega) e3 e4 (fun j hj => e5 j (by omega))
end
