/-! ===== orders ===== -/
abbrev sp_O : Type := Int32 × Option (Nat → Nat)
def lp_ {α : Type} (f : Nat → α → α) : Nat → Nat → α → α
  | 0, _, a => a
  | m + 1, p, a => lp_ f m (p + 1) (f p a)
def sp_so (s : Nat → Int32) (M : Nat) (ord : Nat → Nat) : Nat → Int32 := fun k => if k < M then s (ord k) else s k
def sp_le (V : sp_V) (G : Nat) (lw : sp_W) (s : Nat → Int32) (n : Nat) (h : sp_H) (M : Nat) (ord : Nat → Nat) (o : sp_O) : sp_O := if o.1 < 0 then (sp_lo V G lw (sp_so s M ord) n 0 h 0, some ord) else if sp_lo V G lw (sp_so s M ord) n 0 h 0 < o.1 then (sp_lo V G lw (sp_so s M ord) n 0 h 0, some ord) else o
def sp_od (V : sp_V) (G : Nat) (lw : sp_W) (s : Nat → Int32) (n : Nat) (h : sp_H) (M : Nat) : Nat → Nat → Nat → (Nat → Nat) → sp_O → sp_O
  | 0, _, _, _, o => o
  | d + 1, k, u, ord, o => if k = M then sp_le V G lw s n h M ord o else lp_ (fun p o => if u.testBit p then o else sp_od V G lw s n h M d (k + 1) (u ||| 2 ^ p) (va_up ord k p) o) M 0 o
def xo_ (τ : ah_S) (b : Nat) (ga : Nat → Nat) (V : sp_V) (G : Nat) (lw : sp_W) (s : Nat → Int32) (n : Nat) (h : sp_H) (M k : Nat) (ord : Nat → Nat) (o : sp_O) : Prop := xk_ τ b ga V G lw ∧ xh_ τ b 12 h ∧ ah_fi τ 21 b = Int32.ofNat n ∧ (∀ j, j < n → ah_ai τ (b + 24) j = sp_c G (s j)) ∧ (∀ j, M ≤ j → j < n → ah_ai τ (b + 22) j = sp_c G (s j)) ∧ ah_fi τ 28 b = o.1 ∧ (∀ f, o.2 = some f → ∀ i, i < M → ah_ai τ (b + 26) i = Int32.ofNat (f i)) ∧ (∀ i, i < k → ah_ai τ (b + 25) i = Int32.ofNat (ord i))
def mo_ (τ : ah_S) (b : Nat) (V : sp_V) (G : Nat) (lw : sp_W) (s : Nat → Int32) (n : Nat) (h : sp_H) (M k : Nat) (ord : Nat → Nat) (o : sp_O) : Prop := mk_ τ b V G lw ∧ mh_ τ b 130 h ∧ ah_fi τ 636 (b + 123) = Int32.ofNat n ∧ (∀ j, j < n → ah_ai τ (b + 148) j = s j) ∧ (∀ j, M ≤ j → j < n → ah_ai τ (b + 146) j = s j) ∧ ah_fi τ 641 (b + 123) = o.1 ∧ (∀ f, o.2 = some f → ∀ i, i < M → ah_ai τ (b + 150) i = Int32.ofNat (f i)) ∧ (∀ i, i < k → ah_ai τ (b + 149) i = Int32.ofNat (ord i))
section
variable {σ : ah_S} {b nb G : Nat} {ga ra ba kd : Nat → Nat} {hd : Nat → Int32} {sz : Nat → Nat} {el : sp_E} {V : sp_V} {lw : sp_W} {h : sp_H} {s : Nat → Int32} {n : Nat}
theorem lx_leaf {M : Nat} {ord : Nat → Nat} {o : sp_O} {F : ah_S → Option Nat → Int32 → Int32 → Int32 → Option ah_S} {ρ : ah_S} (hv : sp_hw h) (hn : n ≤ 30) (hM : M ≤ 5) (hMn : M ≤ n) (ho : ∀ i, i < M → ord i < M) (O : xo_ ρ b ga V G lw s n h M M ord o) : ∀ m i σ q, i + m = M → m < q → ag_ b [12] ρ σ → ah_fi σ 21 b = Int32.ofNat n → (∀ j, M ≤ j → j < n → ah_ai σ (b + 22) j = sp_c G (s j)) → (∀ j, j < i → ah_ai σ (b + 22) j = sp_c G (s (ord j))) → pu_ok (F_X0_tryOrders_8 F q σ (some b) (Int32.ofNat M) (Int32.ofNat i)) (fun υ => ag_ b [5, 11, 12, 15, 16] ρ υ ∧ xo_ υ b ga V G lw s n h M M ord (sp_le V G lw s n h M ord o)) := by
  obtain ⟨o1, o2, o3, o4, o5, o6, o7, o8⟩ := O
  have r0 := o1.1
  intro m
  induction m with
  | zero =>
    intro i σ q hi hq A i1 i2 i3
    obtain ⟨q, rfl⟩ : ∃ z, q = z + 1 := ⟨q - 1, by omega⟩
    have s0 := ag_sk A
    unfold F_X0_tryOrders_8
    rw [if_pos ((nu_ofle (by omega) (by omega)).mpr (by omega)), ss_0 s0, pu_bs]
    have hc : xcm_ σ b G (sp_so s M ord) n := ⟨i1, hn, fun j hj => by
      unfold sp_so
      by_cases c : j < M
      · rw [if_pos c]; exact i3 j (by omega)
      · rw [if_neg c]; exact i2 j (by omega) hj⟩
    refine pu_b2 (fx_lossRow (xk_ag A (by decide) o1) hc (xh_ag A r0 m12 (by decide) o2) hv) ?_
    rintro v υ ⟨rfl, A2⟩
    dsimp only at A2 ⊢
    have s2 := ag_sk A2
    have hc2 := xcm_ag A2 s0 (by decide) hc
    have A3 : ag_ b [5, 11, 12, 15, 16] ρ υ := ag_tr (ag_mo (by decide) A) (ag_mo (by decide) A2)
    have A4 : ag_ b [5, 11, 12] ρ υ := ag_tr (ag_mo (by decide) A) (ag_mo (by decide) A2)
    have e28 : ah_fi υ 28 b = o.1 := by rw [← o6]; exact ag_fi (k := 0) A4 r0 (by decide) (by decide) (by decide)
    have c5 : ∀ j, M ≤ j → j < n → ah_ai υ (b + 22) j = sp_c G (s j) := fun j q1 q2 => by
      rw [hc2.2.2 j q2]
      unfold sp_so
      rw [if_neg (by omega)]
    have same : xo_ υ b ga V G lw s n h M M ord o := ⟨xk_ag A4 (by decide) o1, xh_ag A4 r0 m12 (by decide) o2, hc2.1, fun j hj => by rw [ag_ai A4 r0 (by decide) (by decide)]; exact o4 j hj, c5, e28, fun f hf i hi => by rw [ag_ai A4 r0 (by decide) (by decide)]; exact o7 f hf i hi, fun i hi => by rw [ag_ai A4 r0 (by decide) (by decide)]; exact o8 i hi⟩
    have setn : ∀ x, pu_ok ((ah_pI υ 28 (some b) x).bind fun σ5 => (ah_gR σ5 26 (some b)).bind fun v6 => (ah_gR σ5 27 (some b)).bind fun v7 => (ah_cp σ5 v6 0 v7 0 (Int32.ofNat M)).bind fun σ8 => some σ8) (fun τ => ag_ b [5, 11, 12, 15, 16] ρ τ ∧ xo_ τ b ga V G lw s n h M M ord (x, some ord)) := by
      intro x
      have s3 : sk_ok (ah_sI υ 28 b x) b := s2
      rw [sp_28 s2, pu_bs, sg_26 s3, pu_bs, sg_27 s3, pu_bs, show ah_cp (ah_sI υ 28 b x) (some (b + 25)) 0 (some (b + 26)) 0 (Int32.ofNat M) = some (ah_cpI (ah_sI υ 28 b x) (b + 25) 0 (b + 26) 0 M) from sk_cp (i := 0) (j := 0) (m1 := 5) (m2 := 5) s3 (by decide) (by decide) rfl rfl rfl rfl (by omega) (by omega) (by decide) (by decide), pu_bs]
      have A5 : ag_ b [16] υ (ah_cpI (ah_sI υ 28 b x) (b + 25) 0 (b + 26) 0 M) := ag_cI (ag_wI (ag_rf _ s2) (fun _ => lb_fo (by decide) rfl (by decide))) (fun _ => lb_sc (by decide) rfl (by decide))
      obtain ⟨p1, p2, p3, p4, p5, p6, p7, p8⟩ := same
      refine pu_ret ⟨ag_tr A3 (ag_mo (by decide) A5), xk_ag A5 (by decide) p1, xh_ag A5 s2 m12 (by decide) p2, ?_, fun j hj => ?_, fun j q1 q2 => ?_, ?_, fun f hf i hi => ?_, fun i hi => ?_⟩
      · rw [← p3]; exact ag_fi (k := 0) A5 s2 (by decide) (by decide) (by decide)
      · rw [ag_ai A5 s2 (by decide) (by decide)]; exact p4 j hj
      · rw [ag_ai A5 s2 (by decide) (by decide)]; exact p5 j q1 q2
      · rw [rw_fi_cpI, rw_fi_sI, if_pos rfl, if_pos rfl]
      · cases hf
        rw [rw_ai_cpI, if_pos rfl, if_pos (by omega), rw_ai_sI, show 0 + (i - 0) = i by omega]; exact p8 i hi
      · rw [ag_ai A5 s2 (by decide) (by decide)]; exact p8 i hi
    rw [si_28 s2, pu_bs, e28, pu_bs]
    unfold sp_le
    by_cases c : o.1 < 0
    · rw [if_pos c, if_pos c]; exact setn _
    · rw [if_neg c, if_neg c]
      by_cases d : sp_lo V G lw (sp_so s M ord) n 0 h 0 < o.1
      · rw [if_pos d, if_pos d]; exact setn _
      · rw [if_neg d, if_neg d]; exact pu_ret ⟨A3, same⟩
  | succ m ih =>
    intro i σ q hi hq A i1 i2 i3
    obtain ⟨q, rfl⟩ : ∃ z, q = z + 1 := ⟨q - 1, by omega⟩
    have s0 := ag_sk A
    have hoi := ho i (by omega)
    have e25 : ah_ai σ (b + 25) i = Int32.ofNat (ord i) := by rw [ag_ai A r0 (by decide) (by decide)]; exact o8 i (by omega)
    have e24 : ah_ai σ (b + 24) (ord i) = sp_c G (s (ord i)) := by rw [ag_ai A r0 (by decide) (by decide)]; exact o4 _ (by omega)
    unfold F_X0_tryOrders_8
    rw [if_neg (fun z => by have := (nu_ofle (by omega) (by omega)).mp z; omega)]
    simp only [sg_20 s0, sg_25 s0, sg_26 s0, pu_bs, al_25 s0 (show i < 5 by omega), e25, al_24 s0 (show ord i < 30 by omega), e24, aw_22 s0 (show i < 30 by omega), nl_ar_1]
    refine ih (i + 1) _ q (by omega) (by omega) (ag_wA A (fun _ => lb_sc (by decide) rfl (by decide))) i1 (fun j q1 q2 => ?_) (fun j hj => ?_)
    · rw [rw_ai_sA, if_pos rfl, if_neg (by omega)]; exact i2 j q1 q2
    · rw [rw_ai_sA, if_pos rfl]
      by_cases z : j = i
      · rw [if_pos z, z]
      · rw [if_neg z]; exact i3 j (by omega)
theorem xo_ag {M k : Nat} {ord : Nat → Nat} {o : sp_O} {τ : ah_S} (A : ag_ b [15] σ τ) (hk : ∀ i, i < k → ah_ai τ (b + 25) i = ah_ai σ (b + 25) i) (O : xo_ σ b ga V G lw s n h M k ord o) : xo_ τ b ga V G lw s n h M k ord o := by
  obtain ⟨o1, o2, o3, o4, o5, o6, o7, o8⟩ := O
  have r0 := o1.1
  exact ⟨xk_ag A (by decide) o1, xh_ag A r0 m12 (by decide) o2, by rw [← o3]; exact ag_fi (k := 0) A r0 (by decide) (by decide) (by decide), fun j hj => by rw [ag_ai A r0 (by decide) (by decide)]; exact o4 j hj, fun j q1 q2 => by rw [ag_ai A r0 (by decide) (by decide)]; exact o5 j q1 q2, by rw [← o6]; exact ag_fi (k := 0) A r0 (by decide) (by decide) (by decide), fun f hf i hi => by rw [ag_ai A r0 (by decide) (by decide)]; exact o7 f hf i hi, fun i hi => by rw [hk i hi]; exact o8 i hi⟩
theorem lx_order {M : Nat} (hv : sp_hw h) (hn : n ≤ 30) (hM : M ≤ 5) (hMn : M ≤ n) : ∀ d k u ord o σ, k ≤ M → M - k < d → u < 128 → (∀ i, i < k → ord i < M) → xo_ σ b ga V G lw s n h M k ord o → pu_ok (Z_X0_tryOrders d σ (some b) (Int32.ofNat k) (Int32.ofNat u) (Int32.ofNat M)) (fun υ => ag_ b [5, 11, 12, 15, 16] σ υ ∧ xo_ υ b ga V G lw s n h M k ord (sp_od V G lw s n h M d k u ord o)) := by
  intro d
  induction d with
  | zero => intro k u ord o σ hk hd; omega
  | succ d ih =>
    intro k u ord o σ hk hd hu ho O
    show pu_ok (F_X0_tryOrders (Z_X0_tryOrders d) σ (some b) (Int32.ofNat k) (Int32.ofNat u) (Int32.ofNat M)) _
    unfold F_X0_tryOrders sp_od
    have s0 := O.1.1
    by_cases c : k = M
    · subst c
      rw [if_pos rfl, if_pos rfl]
      exact lx_leaf hv hn hM hMn ho O k 0 σ 1000 (by omega) (by omega) (ag_rf _ s0) O.2.2.1 O.2.2.2.2.1 (fun j hj => absurd hj (Nat.not_lt_zero _))
    · rw [if_neg c, if_neg (fun z => c ((nu_ofeq (by omega) (by omega)).mp z))]
      have key : ∀ m p τ q o', p + m = M → m < q → ag_ b [5, 11, 12, 15, 16] σ τ → xo_ τ b ga V G lw s n h M k ord o' → pu_ok (F_X0_tryOrders_86 (Z_X0_tryOrders d) q τ (some b) (Int32.ofNat k) (Int32.ofNat u) (Int32.ofNat M) (Int32.ofNat p)) (fun υ => ag_ b [5, 11, 12, 15, 16] σ υ ∧ xo_ υ b ga V G lw s n h M k ord (lp_ (fun p o => if u.testBit p then o else sp_od V G lw s n h M d (k + 1) (u ||| 2 ^ p) (va_up ord k p) o) m p o')) := by
        intro m
        induction m with
        | zero =>
          intro p τ q o' hp hq A O'
          obtain ⟨q, rfl⟩ : ∃ z, q = z + 1 := ⟨q - 1, by omega⟩
          unfold F_X0_tryOrders_86
          rw [if_pos ((nu_ofle (by omega) (by omega)).mpr (by omega))]
          exact pu_ret ⟨A, O'⟩
        | succ m ihm =>
          intro p τ q o' hp hq A O'
          obtain ⟨q, rfl⟩ : ∃ z, q = z + 1 := ⟨q - 1, by omega⟩
          have sτ := ag_sk A
          unfold F_X0_tryOrders_86 lp_
          rw [if_neg (fun z => by have := (nu_ofle (by omega) (by omega)).mp z; omega), fx_isIn hu (by omega), pu_b2s]
          by_cases e : u.testBit p = true
          · rw [if_pos e, if_pos e, if_neg nu_10n, nl_ar_1]
            exact ihm (p + 1) τ q o' (by omega) (by omega) A O'
          · rw [if_neg e, if_neg e, if_pos rfl, sg_26 sτ, pu_bs, aw_25 sτ (by omega), pu_bs]
            have A2 : ag_ b [15] τ (ah_sA τ (b + 25) k (Int32.ofNat p)) := ag_wA (ag_rf _ sτ) (fun _ => lb_sc (by decide) rfl (by decide))
            have s2 := ag_sk A2
            have O2 : xo_ (ah_sA τ (b + 25) k (Int32.ofNat p)) b ga V G lw s n h M (k + 1) (va_up ord k p) o' := by
              obtain ⟨o1, o2, o3, o4, o5, o6, o7, o8⟩ := xo_ag A2 (fun i hi => by rw [rw_ai_sA, if_pos rfl, if_neg (by omega)]) O'
              refine ⟨o1, o2, o3, o4, o5, o6, o7, fun i hi => ?_⟩
              rw [rw_ai_sA, if_pos rfl]
              unfold va_up
              by_cases z : i = k
              · rw [if_pos z, if_pos z]
              · rw [if_neg z, if_neg z]; exact O'.2.2.2.2.2.2.2 i (by omega)
            obtain ⟨b1, b2, -⟩ := bt_or hu (show p < 7 by omega)
            rw [ss_0 s2, pu_bs, nl_ar_1, b1]
            refine pu_bind (ih (k + 1) (u ||| 2 ^ p) (va_up ord k p) o' _ (by omega) (by omega) b2 (fun i hi => ?_) O2) ?_
            · unfold va_up
              by_cases z : i = k
              · rw [if_pos z]; omega
              · rw [if_neg z]; exact ho i (by omega)
            · rintro υ ⟨A3, O3⟩
              rw [nl_ar_1]
              refine ihm (p + 1) υ q _ (by omega) (by omega) (ag_tr A (ag_tr (ag_mo (by decide) A2) A3)) ?_
              obtain ⟨o1, o2, o3, o4, o5, o6, o7, o8⟩ := O3
              refine ⟨o1, o2, o3, o4, o5, o6, o7, fun i hi => ?_⟩
              rw [o8 i (by omega)]
              unfold va_up
              rw [if_neg (by omega)]
      exact key M 0 σ 1000 o (by omega) (by omega) (ag_rf _ s0) O
end
