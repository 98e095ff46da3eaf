/-! ===== the class's huts: a night, copies, what is lacking ===== -/
theorem nu_ne1 {n : Nat} (h : n < 2147483648) : Int32.ofNat n ≠ -1 := by
  intro e
  have := nu_of h
  rw [e] at this
  have k : (-1 : Int32).toInt = -1 := rfl
  omega
theorem fx_night {σ : ah_S} {b g k G : Nat} {ga : Nat → Nat} {V : sp_V} {lw : sp_W} {h : sp_H} (h0 : sk_ok σ b) (hp : xp_ σ b ga V G) (hw : xw_ σ b lw) (hr : sp_rg G V) (hk : k ∈ sk_H) (hg : g < G) (hv : sp_hw h) (H : xh_ σ b k h) : pu_ok (F_X4_night σ (some (b + k)) (Int32.ofNat g)) (fun τ => ag_ b [sk_B.getD k 99, 11] σ τ ∧ xh_ τ b k (sp_nt V lw g h)) := by
  obtain ⟨q1, -, -, -, -, -, -, p1, -, p2, -, p3, -, p4, -, m1, m2, m3, m4⟩ := sk_Hd k hk
  have hG := hp.1
  obtain ⟨H1, H2, H3, H4, ⟨n, hn, H5, H6⟩, H7⟩ := H
  have hg7 : g < 7 := by omega
  obtain ⟨o1, o2, o3⟩ := bt_or hn hg7
  have hb : h (13 + g) = if n.testBit g then 1 else 0 := H6 g hg7
  have B : ∀ j, j < 7 → sp_nt V lw g h (13 + j) = if (n ||| 2 ^ g).testBit j then 1 else 0 := by
    intro j hj
    rw [nt_bn hj, o3 j hj]
    by_cases e : j = g
    · rw [if_pos e]; simp [e]
    · rw [if_neg e, H6 j hj]; simp [e]
  unfold F_X4_night
  rw [if_neg (nu_ne1 (by omega)), hu_403 h0 hk, pu_bs, H5, fx_isIn hn hg7, pu_b2s]
  by_cases c : n.testBit g = true
  · rw [if_pos c, if_neg (by decide), hu_403 h0 hk, pu_bs, H5, o1, hu_p403 h0 hk, pu_bs]
    rw [if_pos c] at hb
    refine fx_night47 h0 hp hw hr hk hg hv 4 0 _ 1000 rfl (by decide) (ag_wI (ag_rf _ h0) (fun _ => lb_fc (by decide) (by omega) rfl (by simp))) (fun j hj => ?_) (fun j hj => ?_) ?_ (fun j hj => ⟨fun q => absurd q (Nat.not_lt_zero _), fun _ hs => ?_⟩) ⟨n ||| 2 ^ g, o2, ?_, B⟩ (fun j t hj ht hs => ?_)
    · rw [rw_ai_sI, if_neg (Nat.not_lt_zero _)]; exact H1 j hj
    · rw [rw_ai_sI]; exact H2 j hj
    · rw [rw_fi_sI, if_neg (by decide)]; exact H3
    · rw [rw_ai_sI]; exact H4 hs j hj
    · rw [rw_fi_sI, if_pos rfl, if_pos rfl]
    · rw [rw_ai_sI, nt_fd hj ht hg7]
      rw [nt_bn hj] at hs
      by_cases e : j = g
      · subst e
        rw [if_pos rfl, if_neg (by rw [hb]; decide)]
        exact H7 j t hj ht (by rw [hb]; decide)
      · rw [if_neg e] at hs ⊢
        exact H7 j t hj ht hs
  · rw [if_neg c] at hb
    rw [if_neg c, if_pos rfl]
    simp only [hu_400 h0 hk, hu_402 h0 hk, pu_bs, nl_mu_4]
    rw [show ah_cp σ (some (b + (k + 1))) 0 (some (b + (k + 3))) (Int32.ofNat (4 * g)) 4 = some (ah_cpI σ (b + (k + 1)) 0 (b + (k + 3)) (4 * g) 4) from sk_cp (i := 0) (j := 4 * g) (n := 4) h0 (by omega) (by omega) p1 p2 p3 p4 (by decide) (by omega) (by decide) (by decide), pu_bs]
    have s1 : sk_ok (ah_cpI σ (b + (k + 1)) 0 (b + (k + 3)) (4 * g) 4) b := h0
    rw [hu_403 s1 hk, pu_bs, rw_fi_cpI, H5, o1, hu_p403 s1 hk, pu_bs]
    refine fx_night47 h0 hp hw hr hk hg hv 4 0 _ 1000 rfl (by decide) (ag_wI (ag_cI (ag_rf _ h0) (fun _ => lb_sc (by omega) m3 (by simp))) (fun _ => lb_fc (by decide) (by omega) rfl (by simp))) (fun j hj => ?_) (fun j hj => ?_) ?_ (fun j hj => ⟨fun q => absurd q (Nat.not_lt_zero _), fun _ hs => ?_⟩) ⟨n ||| 2 ^ g, o2, ?_, B⟩ (fun j t hj ht hs => ?_)
    · rw [rw_ai_sI, rw_ai_cpI, if_neg (by omega), if_neg (Nat.not_lt_zero _)]; exact H1 j hj
    · rw [rw_ai_sI, rw_ai_cpI, if_neg (by omega)]; exact H2 j hj
    · rw [rw_fi_sI, if_neg (by decide), rw_fi_cpI]; exact H3
    · rw [rw_ai_sI, rw_ai_cpI, if_neg (by omega)]; exact H4 hs j hj
    · rw [rw_fi_sI, if_pos rfl, if_pos rfl]
    · rw [rw_ai_sI, rw_ai_cpI, if_pos rfl, nt_fd hj ht hg7]
      rw [nt_bn hj] at hs
      by_cases e : j = g
      · subst e
        rw [if_pos (by omega), if_pos rfl, if_pos hb, show 0 + (4 * j + t - 4 * j) = t by omega]
        exact H1 t ht
      · rw [if_neg (by omega)]
        rw [if_neg e] at hs ⊢
        exact H7 j t hj ht hs
/-- who comes: a guest, or nobody -/
def sp_c (G : Nat) (x : Int32) : Int32 := if 0 ≤ x ∧ x < Int32.ofNat G then x else -1
theorem sp_hwg {V : sp_V} {G : Nat} {lw : sp_W} {x : Int32} {h : sp_H} (hr : sp_rg G V) (hG : G ≤ 7) (hv : sp_hw h) : sp_hw (sp_go V G lw x h) := by
  unfold sp_go
  by_cases c : 0 ≤ x ∧ x < Int32.ofNat G
  · rw [if_pos c]
    obtain ⟨n, rfl, hn⟩ := nu_natl c.1 (by omega) c.2
    rw [nu_cl (by omega)]
    exact sp_hwn hr hv (by omega)
  · rw [if_neg c]; exact hv
theorem fx_go {σ : ah_S} {b k G : Nat} {ga : Nat → Nat} {V : sp_V} {lw : sp_W} {h : sp_H} (x : Int32) (h0 : sk_ok σ b) (hp : xp_ σ b ga V G) (hw : xw_ σ b lw) (hr : sp_rg G V) (hk : k ∈ sk_H) (hv : sp_hw h) (H : xh_ σ b k h) : pu_ok (F_X4_night σ (some (b + k)) (sp_c G x)) (fun τ => ag_ b [sk_B.getD k 99, 11] σ τ ∧ xh_ τ b k (sp_go V G lw x h)) := by
  unfold sp_c sp_go
  by_cases c : 0 ≤ x ∧ x < Int32.ofNat G
  · rw [if_pos c, if_pos c]
    have hG := hp.1
    obtain ⟨n, rfl, hn⟩ := nu_natl c.1 (by omega) c.2
    rw [nu_cl (by omega)]
    exact fx_night h0 hp hw hr hk hn hv H
  · rw [if_neg c, if_neg c]
    unfold F_X4_night
    rw [if_pos rfl]
    exact pu_ret ⟨ag_rf _ h0, H⟩
theorem sk_Hs : ∀ k ∈ sk_H, ∀ c ∈ sk_H, k ≠ c → k + 5 ≤ c ∨ c + 5 ≤ k := by decide
/-- the arrays of a hut laid into another -/
def xc_ (σ : ah_S) (b k c : Nat) : ah_S := ah_cpI (ah_cpI (ah_cpI (ah_cpI σ (b + (c + 1)) 0 (b + (k + 1)) 0 4) (b + (c + 2)) 0 (b + (k + 2)) 0 4) (b + (c + 3)) 0 (b + (k + 3)) 0 28) (b + (c + 4)) 0 (b + (k + 4)) 0 4
theorem xc_sk {σ : ah_S} {b k c : Nat} (h0 : sk_ok σ b) : sk_ok (xc_ σ b k c) b := h0
theorem xc_fi {σ : ah_S} {b k c : Nat} : ah_fi (xc_ σ b k c) = ah_fi σ := rfl
theorem xc_ag {σ : ah_S} {b k c : Nat} (h0 : sk_ok σ b) (hk : k ∈ sk_H) : ag_ b [sk_B.getD k 99] σ (xc_ σ b k c) := by
  obtain ⟨q1, -, -, -, -, -, -, -, -, -, -, -, -, -, -, m1, m2, m3, m4⟩ := sk_Hd k hk
  exact ag_cI (ag_cI (ag_cI (ag_cI (ag_rf _ h0) (fun _ => lb_sc (by omega) m1 List.mem_cons_self)) (fun _ => lb_sc (by omega) m2 List.mem_cons_self)) (fun _ => lb_sc (by omega) m3 List.mem_cons_self)) (fun _ => lb_sc (by omega) m4 List.mem_cons_self)
theorem xc_1 {σ : ah_S} {b k c t : Nat} (hd : k + 5 ≤ c ∨ c + 5 ≤ k) (ht : t < 4) : ah_ai (xc_ σ b k c) (b + (k + 1)) t = ah_ai σ (b + (c + 1)) t := by
  unfold xc_
  rw [rw_ai_cpI, if_neg (by omega), rw_ai_cpI, if_neg (by omega), rw_ai_cpI, if_neg (by omega), rw_ai_cpI, if_pos rfl, if_pos (by omega), show 0 + (t - 0) = t by omega]
theorem xc_2 {σ : ah_S} {b k c t : Nat} (hd : k + 5 ≤ c ∨ c + 5 ≤ k) (ht : t < 4) : ah_ai (xc_ σ b k c) (b + (k + 2)) t = ah_ai σ (b + (c + 2)) t := by
  unfold xc_
  rw [rw_ai_cpI, if_neg (by omega), rw_ai_cpI, if_neg (by omega), rw_ai_cpI, if_pos rfl, if_pos (by omega), rw_ai_cpI, if_neg (by omega), show 0 + (t - 0) = t by omega]
theorem xc_3 {σ : ah_S} {b k c t : Nat} (hd : k + 5 ≤ c ∨ c + 5 ≤ k) (ht : t < 28) : ah_ai (xc_ σ b k c) (b + (k + 3)) t = ah_ai σ (b + (c + 3)) t := by
  unfold xc_
  rw [rw_ai_cpI, if_neg (by omega), rw_ai_cpI, if_pos rfl, if_pos (by omega), rw_ai_cpI, if_neg (by omega), rw_ai_cpI, if_neg (by omega), show 0 + (t - 0) = t by omega]
theorem xc_4 {σ : ah_S} {b k c t : Nat} (hd : k + 5 ≤ c ∨ c + 5 ≤ k) (ht : t < 4) : ah_ai (xc_ σ b k c) (b + (k + 4)) t = ah_ai σ (b + (c + 4)) t := by
  unfold xc_
  rw [rw_ai_cpI, if_pos rfl, if_pos (by omega), rw_ai_cpI, if_neg (by omega), rw_ai_cpI, if_neg (by omega), rw_ai_cpI, if_neg (by omega), show 0 + (t - 0) = t by omega]
theorem xc_eq {σ : ah_S} {b k c : Nat} (h0 : sk_ok σ b) (hk : k ∈ sk_H) (hc : c ∈ sk_H) (h4 : (ah_fi σ 404 (b + c) == 0 || ah_fi σ 404 (b + c) == 1) = true) : F_X4_beAs σ (some (b + k)) (some (b + c)) = some (ah_sI (ah_sI (xc_ σ b k c) 403 (b + k) (ah_fi σ 403 (b + c))) 404 (b + k) (ah_fi σ 404 (b + c))) := by
  obtain ⟨q1, -, -, -, -, -, -, a1, a2, a3, a4, b1, b2, b3, b4, -⟩ := sk_Hd k hk
  obtain ⟨Q1, -, -, -, -, -, -, A1, A2, A3, A4, B1, B2, B3, B4, -⟩ := sk_Hd c hc
  have c1 : ∀ τ, sk_ok τ b → ah_cp τ (some (b + (c + 1))) 0 (some (b + (k + 1))) 0 4 = some (ah_cpI τ (b + (c + 1)) 0 (b + (k + 1)) 0 4) := fun τ s => sk_cp (i := 0) (j := 0) (n := 4) s (by omega) (by omega) A1 a1 B1 b1 (by decide) (by decide) (by decide) (by decide)
  have c2 : ∀ τ, sk_ok τ b → ah_cp τ (some (b + (c + 2))) 0 (some (b + (k + 2))) 0 4 = some (ah_cpI τ (b + (c + 2)) 0 (b + (k + 2)) 0 4) := fun τ s => sk_cp (i := 0) (j := 0) (n := 4) s (by omega) (by omega) A2 a2 B2 b2 (by decide) (by decide) (by decide) (by decide)
  have c3 : ∀ τ, sk_ok τ b → ah_cp τ (some (b + (c + 3))) 0 (some (b + (k + 3))) 0 28 = some (ah_cpI τ (b + (c + 3)) 0 (b + (k + 3)) 0 28) := fun τ s => sk_cp (i := 0) (j := 0) (n := 28) s (by omega) (by omega) A3 a3 B3 b3 (by decide) (by decide) (by decide) (by decide)
  have c4 : ∀ τ, sk_ok τ b → ah_cp τ (some (b + (c + 4))) 0 (some (b + (k + 4))) 0 4 = some (ah_cpI τ (b + (c + 4)) 0 (b + (k + 4)) 0 4) := fun τ s => sk_cp (i := 0) (j := 0) (n := 4) s (by omega) (by omega) A4 a4 B4 b4 (by decide) (by decide) (by decide) (by decide)
  have w1 : ∀ τ v, sk_ok τ b → ah_pZ τ 404 (some (b + k)) v = if (v == 0 || v == 1) = true then some (ah_sI τ 404 (b + k) v) else none := fun τ v s => by
    by_cases q : (v == 0 || v == 1) = true
    · rw [if_pos q, hu_p404 s hk q]
    · rw [if_neg q]
      show (if (ah_hf 404 (ah_tg τ (b + k)) && (v == 0 || v == 1)) = true then some (ah_sI τ 404 (b + k) v) else none) = _
      rw [if_neg]
      intro z
      exact q (by simp only [Bool.and_eq_true] at z; exact z.2)
  unfold F_X4_beAs
  simp (disch := first | assumption | (simp only [rk_sI, rk_sA, rk_sL, rk_cpI, rk_cpL]; assumption) | omega) only [hu_400, hu_401, hu_402, hu_405, hu_403, hu_404, hu_p403, c1, c2, c3, c4, w1, pu_bs, rw_fi_cpI, rw_fi_sI, if_neg (show ¬ (404 : Nat) = 403 by decide), if_pos h4]
  rfl
theorem fx_beAs {σ : ah_S} {b k c : Nat} {h : sp_H} (h0 : sk_ok σ b) (hk : k ∈ sk_H) (hc : c ∈ sk_H) (hkc : k ≠ c) (hv : sp_hw h) (H : xh_ σ b c h) : pu_ok (F_X4_beAs σ (some (b + k)) (some (b + c))) (fun τ => ag_ b [sk_B.getD k 99] σ τ ∧ xh_ τ b k h) := by
  have hd := sk_Hs k hk c hc hkc
  obtain ⟨q1, -⟩ := sk_Hd k hk
  obtain ⟨H1, H2, H3, H4, ⟨n, hn, H5, H6⟩, H7⟩ := H
  rw [xc_eq h0 hk hc (by rw [H3]; rcases hv.1 with e | e <;> rw [e] <;> rfl)]
  refine pu_ret ⟨ag_wI (ag_wI (xc_ag h0 hk) (fun _ => lb_fc (by decide) (by omega) rfl List.mem_cons_self)) (fun _ => lb_fc (by decide) (by omega) rfl List.mem_cons_self), fun t ht => ?_, fun t ht => ?_, ?_, fun hs t ht => ?_, ⟨n, hn, ?_, H6⟩, fun g t hg ht hs => ?_⟩
  · rw [rw_ai_sI, rw_ai_sI, xc_1 hd ht]; exact H1 t ht
  · rw [rw_ai_sI, rw_ai_sI, xc_2 hd ht]; exact H2 t ht
  · rw [rw_fi_sI, if_pos rfl, if_pos rfl]; exact H3
  · rw [rw_ai_sI, rw_ai_sI, xc_4 hd ht]; exact H4 hs t ht
  · rw [rw_fi_sI, if_neg (by decide), rw_fi_sI, if_pos rfl, if_pos rfl]; exact H5
  · rw [rw_ai_sI, rw_ai_sI, xc_3 hd (by omega)]; exact H7 g t hg ht hs
theorem sp_lk0 {V : sp_V} {G t : Nat} {h : sp_H} (hr : sp_rg G V) (hv : sp_hw h) (ht : t < 4) : (if (0 : Int32) < V 0 t - h t then V 0 t - h t else 0) = sp_lk V h t := by
  unfold sp_lk
  have o := hr 0 t (Or.inl ⟨by omega, ht⟩)
  have o2 : (V 0 t).toInt ≤ 99 := o.2
  have l := hv.2.2.2 t (by omega)
  have e : (V 0 t - h t).toInt = (V 0 t).toInt - (h t).toInt := nu_sub (by omega) (by omega)
  have k : (0 : Int32).toInt = 0 := rfl
  by_cases c : h t < V 0 t
  · rw [if_pos c, if_pos]
    rw [nu_lt] at c ⊢
    omega
  · rw [if_neg c, if_neg]
    rw [nu_lt] at c ⊢
    omega
theorem fx_lacks {σ : ah_S} {b k t G : Nat} {ga : Nat → Nat} {V : sp_V} {h : sp_H} (h0 : sk_ok σ b) (hp : xp_ σ b ga V G) (hr : sp_rg G V) (hk : k ∈ sk_H) (hv : sp_hw h) (H : xh_ σ b k h) (ht : t < 4) : F_X4_lacks σ (some (b + k)) (Int32.ofNat t) = some (sp_lk V h t, σ) := by
  obtain ⟨t1, -⟩ := xp_th h0 hp
  obtain ⟨u1, u2, u3, u4⟩ := t1 t ht
  unfold F_X4_lacks
  simp only [hu_406 h0 hk, pu_bs, sg_9 h0, u1, u2, hu_400 h0 hk, hu_l1 h0 hk ht, H.1 t ht, sp_lk0 hr hv ht]
theorem fx_loss {σ : ah_S} {b k G : Nat} {ga : Nat → Nat} {V : sp_V} {h : sp_H} (h0 : sk_ok σ b) (hp : xp_ σ b ga V G) (hr : sp_rg G V) (hk : k ∈ sk_H) (hv : sp_hw h) (H : xh_ σ b k h) : F_X4_loss σ (some (b + k)) = some (sp_ls V h, σ) := by
  obtain ⟨t1, -⟩ := xp_th h0 hp
  have st : ∀ n x t, t < 4 → F_X4_loss_4 (n + 1) σ (some (b + k)) x (Int32.ofNat t) = F_X4_loss_4 n σ (some (b + k)) (x + sp_lk V h t * V 1 t) (Int32.ofNat (t + 1)) := by
    intro n x t ht
    obtain ⟨u1, u2, u3, u4⟩ := t1 t ht
    show (if (4 : Int32) ≤ Int32.ofNat t then _ else _) = _
    rw [if_neg (by rw [nl_le_4 (by omega)]; omega)]
    simp only [hu_is h0 hk, pu_bs, fx_lacks h0 hp hr hk hv H ht, pu_b2s, hu_406 h0 hk, sg_10 h0, u3, u4, nl_ar_1]
  show F_X4_loss_4 (995 + 1 + 1 + 1 + 1 + 1) σ (some (b + k)) 0 (Int32.ofNat 0) = _
  rw [st _ _ _ (by decide), st _ _ _ (by decide), st _ _ _ (by decide), st _ _ _ (by decide)]
  show (if (4 : Int32) ≤ Int32.ofNat 4 then _ else _) = _
  rw [if_pos (by decide)]
  rfl
