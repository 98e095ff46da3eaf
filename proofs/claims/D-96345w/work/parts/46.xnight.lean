/-! ===== a night, plainly ===== -/
section
variable {V : sp_V} {lw : sp_W} {g t j : Nat} {h : sp_H}
theorem nt_lev (ht : t < 4) : sp_nt V lw g h t = sp_lf V lw g t (h t) (sp_bl V g h t) := if_pos ht
theorem nt_bk (ht : t < 4) : sp_nt V lw g h (4 + t) = if V 5 g = 1 then sp_nt V lw g h t else h (4 + t) := by
  rw [nt_lev ht]
  unfold sp_nt
  rw [if_neg (by omega), if_pos (by omega), show 4 + t - 4 = t by omega]
theorem nt_ah (ht : t < 4) : sp_nt V lw g h (8 + t) = sp_bl V g h t := by
  unfold sp_nt
  rw [if_neg (by omega), if_neg (by omega), if_pos (by omega), show 8 + t - 8 = t by omega]
theorem nt_12 : sp_nt V lw g h 12 = 1 := rfl
theorem nt_bn (hj : j < 7) : sp_nt V lw g h (13 + j) = if j = g then 1 else h (13 + j) := by
  unfold sp_nt
  rw [if_neg (by omega), if_neg (by omega), if_neg (by omega), if_neg (by omega)]
  by_cases e : j = g
  · rw [if_pos (by omega), if_pos e]
  · rw [if_neg (by omega), if_neg e, if_neg (by omega)]
theorem nt_fd (hj : j < 7) (ht : t < 4) (hg : g < 7) : sp_nt V lw g h (20 + (4 * j + t)) = if j = g then (if h (13 + g) = 0 then h t else h (20 + (4 * g + t))) else h (20 + (4 * j + t)) := by
  unfold sp_nt
  rw [if_neg (by omega), if_neg (by omega), if_neg (by omega), if_neg (by omega), if_neg (by omega)]
  by_cases e : j = g
  · subst e
    rw [if_pos rfl]
    by_cases e2 : h (13 + j) = 0
    · rw [if_pos ⟨e2, by omega, by omega⟩, if_pos e2, show 20 + (4 * j + t) - (20 + 4 * j) = t by omega]
    · rw [if_neg (fun q => e2 q.1), if_neg e2]
  · rw [if_neg (by omega), if_neg e]
theorem sp_99r (v : Int32) : nu_in (sp_99 v) 99 := by
  unfold sp_99
  by_cases h1 : 0 ≤ v
  · rw [if_pos h1]
    by_cases h2 : v ≤ 99
    · rw [if_pos h2]
      rw [nu_le] at h1 h2
      exact ⟨h1, h2⟩
    · rw [if_neg h2]; exact ⟨by decide, by decide⟩
  · rw [if_neg h1]; exact ⟨by decide, by decide⟩
theorem sp_blr {G : Nat} (hr : sp_rg G V) (hv : sp_hw h) (hg : g < 7) (ht : t < 4) : nu_in (sp_bl V g h t) 99 := by
  obtain ⟨v1, v2, v3, v4⟩ := hv
  unfold sp_bl
  have o := hr 0 t (Or.inl ⟨by omega, ht⟩)
  split
  · split
    · exact v4 _ (by omega)
    · exact v4 _ (by omega)
  · split
    · exact v4 _ (by omega)
    · split
      · exact o
      · split
        · exact o
        · exact v4 _ (by omega)
theorem sp_hwn {G : Nat} (hr : sp_rg G V) (hv : sp_hw h) (hg : g < 7) : sp_hw (sp_nt V lw g h) := by
  obtain ⟨v1, v2, v3, v4⟩ := id hv
  refine ⟨Or.inr rfl, fun j hj => ?_, fun j t hj ht => ?_, fun i hi => ?_⟩
  · rw [nt_bn hj]
    split
    · exact Or.inr rfl
    · exact v2 j hj
  · rw [nt_bn hj, nt_fd hj ht hg]
    by_cases e : j = g
    · rw [if_pos e]; intro q; exact absurd q (by decide)
    · rw [if_neg e, if_neg e]; exact v3 j t hj ht
  · unfold sp_nt
    split
    · exact sp_99r _
    · split
      · split
        · exact sp_99r _
        · exact v4 i hi
      · split
        · exact sp_blr hr hv hg (by omega)
        · split
          · exact ⟨by decide, by decide⟩
          · split
            · exact ⟨by decide, by decide⟩
            · split
              · exact v4 _ (by omega)
              · exact v4 i hi
end
/-! bits of who has been there -/
set_option maxRecDepth 20000 in
theorem bt_all : ∀ n : Fin 128, ∀ g : Fin 7, ((Int32.ofNat n.1 >>> (Int32.ofNat g.1 &&& 31)) &&& (1 : Int32)) = (if n.1.testBit g.1 then 1 else 0) ∧ (Int32.ofNat n.1 ||| ((1 : Int32) <<< (Int32.ofNat g.1 &&& 31))) = Int32.ofNat (n.1 ||| 2 ^ g.1) ∧ n.1 ||| 2 ^ g.1 < 128 ∧ (Int32.ofNat n.1 &&& (((1 : Int32) <<< (Int32.ofNat g.1 &&& 31)) ^^^ (-1 : Int32))) = Int32.ofNat (n.1 &&& (127 - 2 ^ g.1)) ∧ n.1 &&& (127 - 2 ^ g.1) < 128 ∧ ∀ j : Fin 7, (n.1 ||| 2 ^ g.1).testBit j.1 = (n.1.testBit j.1 || decide (j.1 = g.1)) ∧ (n.1 &&& (127 - 2 ^ g.1)).testBit j.1 = (n.1.testBit j.1 && !decide (j.1 = g.1)) := by decide +kernel
theorem bt_is {n g : Nat} (hn : n < 128) (hg : g < 7) : ((Int32.ofNat n >>> (Int32.ofNat g &&& 31)) &&& (1 : Int32)) = (if n.testBit g then 1 else 0) := (bt_all ⟨n, hn⟩ ⟨g, hg⟩).1
theorem bt_or {n g : Nat} (hn : n < 128) (hg : g < 7) : (Int32.ofNat n ||| ((1 : Int32) <<< (Int32.ofNat g &&& 31))) = Int32.ofNat (n ||| 2 ^ g) ∧ n ||| 2 ^ g < 128 ∧ ∀ j, j < 7 → (n ||| 2 ^ g).testBit j = (n.testBit j || decide (j = g)) := ⟨(bt_all ⟨n, hn⟩ ⟨g, hg⟩).2.1, (bt_all ⟨n, hn⟩ ⟨g, hg⟩).2.2.1, fun j hj => ((bt_all ⟨n, hn⟩ ⟨g, hg⟩).2.2.2.2.2 ⟨j, hj⟩).1⟩
theorem bt_an {n g : Nat} (hn : n < 128) (hg : g < 7) : (Int32.ofNat n &&& (((1 : Int32) <<< (Int32.ofNat g &&& 31)) ^^^ (-1 : Int32))) = Int32.ofNat (n &&& (127 - 2 ^ g)) ∧ n &&& (127 - 2 ^ g) < 128 ∧ ∀ j, j < 7 → (n &&& (127 - 2 ^ g)).testBit j = (n.testBit j && !decide (j = g)) := ⟨(bt_all ⟨n, hn⟩ ⟨g, hg⟩).2.2.2.1, (bt_all ⟨n, hn⟩ ⟨g, hg⟩).2.2.2.2.1, fun j hj => ((bt_all ⟨n, hn⟩ ⟨g, hg⟩).2.2.2.2.2 ⟨j, hj⟩).2⟩
theorem fx_isIn {n g : Nat} {σ : ah_S} (hn : n < 128) (hg : g < 7) : F_X0_isIn σ (Int32.ofNat n) (Int32.ofNat g) = some (if n.testBit g then 1 else 0, σ) := by
  unfold F_X0_isIn
  rw [bt_is hn hg]
  cases n.testBit g <;> rfl
/-! ===== the class's night ===== -/
theorem sk_Hl : ∀ k ∈ sk_H, 0 ∉ [sk_B.getD k 99, 11] ∧ 3 ∉ [sk_B.getD k 99, 11] ∧ 99 ∉ [sk_B.getD k 99, 11] ∧ 50 ∉ [sk_B.getD k 99, 11] ∧ sk_B.getD k 99 ∉ [11] := by decide
theorem fx_bel {σ : ah_S} {b g t k G : Nat} {ga : Nat → Nat} {V : sp_V} {h : sp_H} (h0 : sk_ok σ b) (hp : xp_ σ b ga V G) (hr : sp_rg G V) (hk : k ∈ sk_H) (hg : g < G) (ht : t < 4) (i2 : ah_ai σ (b + (k + 2)) t = h (4 + t)) (i3 : ah_fi σ 404 (b + k) = h 12) (i4 : h 12 ≠ 0 → ah_ai σ (b + (k + 4)) t = h (8 + t)) (i6 : ah_ai σ (b + (k + 3)) (4 * g + t) = if h (13 + g) = 0 then h t else h (20 + (4 * g + t))) : F_X4_believedBy σ (some (b + k)) (Int32.ofNat g) (Int32.ofNat t) = some (sp_bl V g h t, σ) := by
  obtain ⟨g1, g2, g3, g4, g5, g6, g7, g8⟩ := xp_gst h0 hp hg
  obtain ⟨t1, t2, -, -⟩ := xp_th h0 hp
  obtain ⟨u1, u2, -⟩ := t1 t ht
  have hG := hp.1
  unfold F_X4_believedBy sp_bl
  simp only [hu_406 h0 hk, sg_7 h0, g1, g5, g7, pu_bs, hu_402 h0 hk, hu_401 h0 hk, hu_405 h0 hk, hu_404 h0 hk, sg_9 h0, u1, u2, nl_mu_4, nl_aa, hu_l2 h0 hk ht, hu_l4 h0 hk ht, hu_l3 h0 hk (show 4 * g + t < 28 by omega), i2, i3, i6]
  by_cases c : V 5 g = 0
  · simp only [if_pos c]
  simp only [if_neg c]
  by_cases c : V 5 g = 1
  · simp only [if_pos c]
  simp only [if_neg c]
  by_cases c2 : V 5 g = 2
  · simp only [if_pos c2]
  simp only [if_neg c2]
  have c3 : V 5 g = 3 := by
    obtain ⟨r1, r2⟩ := hr 5 g (Or.inr (Or.inr (Or.inl ⟨Or.inr rfl, hg⟩)))
    have r2 : (V 5 g).toInt ≤ 3 := r2
    rw [← Int32.toInt_inj] at *
    have k0 : (0 : Int32).toInt = 0 := rfl
    have k1 : (1 : Int32).toInt = 1 := rfl
    have k2 : (2 : Int32).toInt = 2 := rfl
    have k3 : (3 : Int32).toInt = 3 := rfl
    omega
  simp only [if_pos c3]
  by_cases c4 : h 12 = 0
  · simp only [if_pos c4]
  · simp only [if_neg c4, i4 c4]
theorem fx_night47 {ρ : ah_S} {b g k G : Nat} {ga : Nat → Nat} {V : sp_V} {lw : sp_W} {h : sp_H} (h0 : sk_ok ρ b) (hp : xp_ ρ b ga V G) (hw : xw_ ρ b lw) (hr : sp_rg G V) (hk : k ∈ sk_H) (hg : g < G) (hv : sp_hw h) : ∀ m t σ n, t + m = 4 → m < n → ag_ b [sk_B.getD k 99, 11] ρ σ → (∀ j, j < 4 → ah_ai σ (b + (k + 1)) j = if j < t then sp_nt V lw g h j else h j) → (∀ j, j < 4 → ah_ai σ (b + (k + 2)) j = h (4 + j)) → ah_fi σ 404 (b + k) = h 12 → (∀ j, j < 4 → (j < t → ah_ai σ (b + (k + 4)) j = sp_bl V g h j) ∧ (t ≤ j → h 12 ≠ 0 → ah_ai σ (b + (k + 4)) j = h (8 + j))) → (∃ n, n < 128 ∧ ah_fi σ 403 (b + k) = Int32.ofNat n ∧ ∀ j, j < 7 → sp_nt V lw g h (13 + j) = if n.testBit j then 1 else 0) → (∀ j t, j < 7 → t < 4 → sp_nt V lw g h (13 + j) ≠ 0 → ah_ai σ (b + (k + 3)) (4 * j + t) = sp_nt V lw g h (20 + (4 * j + t))) → pu_ok (F_X4_night_47 n σ (some (b + k)) (Int32.ofNat g) (Int32.ofNat t)) (fun τ => ag_ b [sk_B.getD k 99, 11] ρ τ ∧ xh_ τ b k (sp_nt V lw g h)) := by
  obtain ⟨l0, l3, l99, l50, l11⟩ := sk_Hl k hk
  obtain ⟨q1, -, -, -, -, -, -, -, -, -, -, -, -, -, -, m1, m2, m3, m4⟩ := sk_Hd k hk
  intro m
  induction m with
  | zero =>
    intro t σ n ht hn A i1 i2 i3 i4 i5 i6
    obtain ⟨n, rfl⟩ : ∃ q, n = q + 1 := ⟨n - 1, by omega⟩
    have s0 := ag_sk A
    have hpσ := xp_ag A h0 l0 l99 hp
    obtain ⟨g1, g2, g3, g4, g5, g6, g7, g8⟩ := xp_gst s0 hpσ hg
    have ht4 : t = 4 := by omega
    subst ht4
    unfold F_X4_night_47
    have c4 : (4 : Int32) ≤ Int32.ofNat 4 := by decide
    rw [if_pos c4, hu_p404_1 s0 hk, pu_bs]
    have A1 : ag_ b [sk_B.getD k 99, 11] ρ (ah_sI σ 404 (b + k) 1) := ag_wI A (fun _ => lb_fc (by decide) (by omega) rfl (by simp))
    have s1 : sk_ok (ah_sI σ 404 (b + k) 1) b := s0
    have hp1 := xp_ag A1 h0 l0 l99 hp
    obtain ⟨g1, g2, g3, g4, g5, g6, g7, g8⟩ := xp_gst s1 hp1 hg
    simp only [hu_406 s1 hk, sg_7 s1, g1, g5, g7, pu_bs]
    by_cases c : V 5 g = 1
    · rw [if_pos c]
      simp only [hu_400 s1 hk, hu_401 s1 hk, pu_bs]
      rw [show ah_cp (ah_sI σ 404 (b + k) 1) (some (b + (k + 1))) 0 (some (b + (k + 2))) 0 4 = some (ah_cpI (ah_sI σ 404 (b + k) 1) (b + (k + 1)) 0 (b + (k + 2)) 0 4) from by
        obtain ⟨-, -, -, -, -, -, -, p1, p2, -, -, p3, p4, -⟩ := sk_Hd k hk
        exact sk_cp (i := 0) (j := 0) (n := 4) s1 (by omega) (by omega) p1 p2 p3 p4 (by decide) (by decide) (by decide) (by decide), pu_bs]
      refine pu_ret ⟨ag_cI A1 (fun _ => lb_sc (by omega) m2 (by simp)), fun t ht => ?_, fun t ht => ?_, ?_, fun _ t ht => ?_, ?_, fun j t hj ht hs => ?_⟩
      · rw [rw_ai_cpI, if_neg (by omega), rw_ai_sI, i1 t ht, if_pos ht]
      · rw [rw_ai_cpI, if_pos rfl, if_pos (by omega), rw_ai_sI, show 0 + (t - 0) = t by omega, i1 t ht, if_pos ht, nt_bk ht, if_pos c]
      · rw [rw_fi_cpI, rw_fi_sI, if_pos rfl, if_pos rfl, nt_12]
      · rw [rw_ai_cpI, if_neg (by omega), rw_ai_sI, (i4 t ht).1 ht, nt_ah ht]
      · obtain ⟨n, h1, h2, h3⟩ := i5
        exact ⟨n, h1, by rw [rw_fi_cpI, rw_fi_sI, if_neg (by decide)]; exact h2, h3⟩
      · rw [rw_ai_cpI, if_neg (by omega), rw_ai_sI]; exact i6 j t hj ht hs
    · rw [if_neg c]
      refine pu_ret ⟨A1, fun t ht => ?_, fun t ht => ?_, ?_, fun _ t ht => ?_, ?_, fun j t hj ht hs => ?_⟩
      · rw [rw_ai_sI, i1 t ht, if_pos ht]
      · rw [rw_ai_sI, i2 t ht, nt_bk ht, if_neg c]
      · rw [rw_fi_sI, if_pos rfl, if_pos rfl, nt_12]
      · rw [rw_ai_sI, (i4 t ht).1 ht, nt_ah ht]
      · obtain ⟨n, h1, h2, h3⟩ := i5
        exact ⟨n, h1, by rw [rw_fi_sI, if_neg (by decide)]; exact h2, h3⟩
      · rw [rw_ai_sI]; exact i6 j t hj ht hs
  | succ m ih =>
    intro t σ n ht hn A i1 i2 i3 i4 i5 i6
    obtain ⟨n, rfl⟩ : ∃ q, n = q + 1 := ⟨n - 1, by omega⟩
    have s0 := ag_sk A
    have hG := hp.1
    have hpσ := xp_ag A h0 l0 l99 hp
    have hwσ := xw_ag A h0 l3 hw
    have ht4 : t < 4 := by omega
    obtain ⟨g1, g2, g3, g4, g5, g6, g7, g8⟩ := xp_gst s0 hpσ hg
    have eb : F_X4_believedBy σ (some (b + k)) (Int32.ofNat g) (Int32.ofNat t) = some (sp_bl V g h t, σ) := by
      refine fx_bel s0 hpσ hr hk hg ht4 (i2 t ht4) i3 ((i4 t ht4).2 (by omega)) ?_
      rw [i6 g t (by omega) ht4 (by rw [nt_bn (by omega), if_pos rfl]; decide), nt_fd (by omega) ht4 (by omega), if_pos rfl]
    unfold F_X4_night_47
    rw [if_neg (by rw [nl_le_4 (by omega)]; omega)]
    simp only [hu_is s0 hk, eb, hu_400 s0 hk, hu_406 s0 hk, sg_7 s0, g1, hu_l1 s0 hk ht4, ss_0 s0, pu_bs, pu_b2s]
    rw [i1 t ht4, if_neg (by omega)]
    refine pu_b2 (fx_leftBy s0 hpσ hwσ hr hg ht4 (hv.2.2.2 t (by omega)) (sp_blr hr hv (by omega) ht4)) ?_
    rintro v τ ⟨rfl, Aτ⟩
    have sτ := ag_sk Aτ
    have A2 : ag_ b [sk_B.getD k 99, 11] ρ τ := ag_tr A (ag_mo (by simp) Aτ)
    have e1 : ∀ j, ah_ai τ (b + (k + 1)) j = ah_ai σ (b + (k + 1)) j := fun j => ag_ai Aτ s0 (by omega) (by rw [m1]; exact l11) j
    have e2 : ∀ j, ah_ai τ (b + (k + 2)) j = ah_ai σ (b + (k + 2)) j := fun j => ag_ai Aτ s0 (by omega) (by rw [m2]; exact l11) j
    have e3 : ∀ j, ah_ai τ (b + (k + 3)) j = ah_ai σ (b + (k + 3)) j := fun j => ag_ai Aτ s0 (by omega) (by rw [m3]; exact l11) j
    have e4 : ∀ j, ah_ai τ (b + (k + 4)) j = ah_ai σ (b + (k + 4)) j := fun j => ag_ai Aτ s0 (by omega) (by rw [m4]; exact l11) j
    have e5 : ah_fi τ 404 (b + k) = ah_fi σ 404 (b + k) := ag_fc Aτ s0 (by omega) (by decide) l11
    have e6 : ah_fi τ 403 (b + k) = ah_fi σ 403 (b + k) := ag_fc Aτ s0 (by omega) (by decide) l11
    have s2 : sk_ok (ah_sA τ (b + (k + 1)) t (sp_lf V lw g t (h t) (sp_bl V g h t))) b := sτ
    simp only [hu_w1 sτ hk ht4, pu_bs, hu_405 s2 hk, hu_w4 s2 hk ht4, nl_ar_1]
    refine ih (t + 1) _ n (by omega) (by omega) (ag_wA (ag_wA A2 (fun _ => lb_sc (by omega) m1 (by simp))) (fun _ => lb_sc (by omega) m4 (by simp))) (fun j hj => ?_) (fun j hj => ?_) ?_ (fun j hj => ⟨fun q => ?_, fun q hs => ?_⟩) ?_ (fun j u hj hu hs => ?_)
    · rw [rw_ai_sA, if_neg (by omega), rw_ai_sA, if_pos rfl]
      by_cases e : j = t
      · subst e; rw [if_pos rfl, if_pos (by omega), nt_lev ht4]
      · rw [if_neg e, e1, i1 j hj]
        by_cases e' : j < t
        · rw [if_pos e', if_pos (by omega)]
        · rw [if_neg e', if_neg (by omega)]
    · rw [rw_ai_sA, if_neg (by omega), rw_ai_sA, if_neg (by omega), e2]; exact i2 j hj
    · rw [rw_fi_sA, rw_fi_sA, e5]; exact i3
    · rw [rw_ai_sA, if_pos rfl]
      by_cases e : j = t
      · subst e; rw [if_pos rfl]
      · rw [if_neg e, rw_ai_sA, if_neg (by omega), e4]; exact (i4 j hj).1 (by omega)
    · rw [rw_ai_sA, if_pos rfl, if_neg (by omega), rw_ai_sA, if_neg (by omega), e4]; exact (i4 j hj).2 (by omega) hs
    · rw [rw_fi_sA, rw_fi_sA, e6]; exact i5
    · rw [rw_ai_sA, if_neg (by omega), rw_ai_sA, if_neg (by omega), e3]; exact i6 j u hj hu hs
