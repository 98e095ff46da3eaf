/-! ===== the class goes deeper ===== -/
theorem hb_ : ∀ k, k < 7 → (28 + 5 * k) ∈ sk_H ∧ sk_B.getD (28 + 5 * k) 99 = 60 + k ∧ (27, k, 28 + 5 * k) ∈ sk_Q := by decide
set_option maxRecDepth 20000 in
theorem bo_all : ∀ n : Fin 256, ∀ j : Fin 8, (Int32.ofNat n.1 ||| Int32.ofNat (2 ^ j.1)) = Int32.ofNat (n.1 ||| 2 ^ j.1) ∧ n.1 ||| 2 ^ j.1 < 256 := by decide +kernel
theorem bo_ {n j : Nat} (hn : n < 256) (hj : j < 8) : (Int32.ofNat n ||| Int32.ofNat (2 ^ j)) = Int32.ofNat (n ||| 2 ^ j) ∧ n ||| 2 ^ j < 256 := bo_all ⟨n, hn⟩ ⟨j, hj⟩
theorem bs_ : ∀ g, g < 7 → (1 : Int32) <<< (Int32.ofNat g &&& 31) = Int32.ofNat (2 ^ g) := by decide
def LW_ : List Nat := [11, 17, 18, 60, 61, 62, 63, 64, 65, 66]
/-- what the class holds at a night -/
def xz_ (τ : ah_S) (b : Nat) (ga : Nat → Nat) (V : sp_V) (G : Nat) (lw : sp_W) (a N : Nat) (e : Nat → Int64) (M k : Nat) (pa : Nat → Nat) (y : sp_Y) : Prop := xk_ τ b ga V G lw ∧ xr_ τ b a 0 N e ∧ (∀ i, i < M → ah_ai τ (b + 63) i = Int32.ofNat (y.2 i) ∧ y.2 i < 256) ∧ ah_fi τ 32 b = Int32.ofNat y.1 ∧ (∀ i, i < k → ah_ai τ (b + 64) i = Int32.ofNat (2 ^ pa i) ∧ pa i < 8)
def xi_ (p : Nat) : Int32 := Int32.ofNat p - 1
theorem xi_c {G p : Nat} (hG : G ≤ 7) (hp : p ≤ G) : xi_ p = sp_c G (Int32.ofNat (ix_ G p)) := by
  unfold xi_ ix_
  by_cases c : p = 0
  · rw [if_pos c, c]
    unfold sp_c
    rw [if_neg (fun q => absurd q.2 Int32.lt_irrefl)]; rfl
  · rw [if_neg c, sp_cg hG (by omega)]
    obtain ⟨q, rfl⟩ : ∃ q, p = q + 1 := ⟨p - 1, by omega⟩
    exact nu_s1
theorem xi_le {G p : Nat} (hG : G ≤ 7) (hp : p ≤ 8) : Int32.ofNat G ≤ xi_ p ↔ G + 1 ≤ p := by
  unfold xi_
  rw [nu_le, nu_of (by omega), nu_sub, nu_of (by omega)]
  · have : (1 : Int32).toInt = 1 := rfl
    omega
  · rw [nu_of (by omega)]
    have : (1 : Int32).toInt = 1 := rfl
    omega
  · rw [nu_of (by omega)]
    have : (1 : Int32).toInt = 1 := rfl
    omega
theorem xi_s (p : Nat) : xi_ p + 1 = xi_ (p + 1) := by
  unfold xi_
  rw [Int32.sub_add_cancel, nu_s1]
section
variable {σ : ah_S} {b nb G : Nat} {ga ra ba kd : Nat → Nat} {hd : Nat → Int32} {sz : Nat → Nat} {el : sp_E} {V : sp_V} {lw : sp_W} {h : sp_H} {s : Nat → Int32} {n : Nat}
theorem xz_ag {L : List Nat} {a N M k : Nat} {e : Nat → Int64} {pa : Nat → Nat} {y : sp_Y} {τ : ah_S} (A : ag_ b L σ τ) (hl : 0 ∉ L ∧ 3 ∉ L ∧ 99 ∉ L) (h10 : 10 ∉ L) (h17 : 17 ∉ L) (h18 : 18 ∉ L) (Z : xz_ σ b ga V G lw a N e M k pa y) : xz_ τ b ga V G lw a N e M k pa y := by
  obtain ⟨z1, z2, z3, z4, z5⟩ := Z
  exact ⟨xk_ag A hl z1, xr_ag A h10 z2, fun i hi => by rw [ag_ai A z1.1 (by decide) (by exact h17)]; exact z3 i hi, by rw [← z4]; exact ag_fi (k := 0) A z1.1 (by decide) (by decide) (by exact h17), fun i hi => by rw [ag_ai A z1.1 (by decide) (by exact h18)]; exact z5 i hi⟩
theorem lx_ways {t a N M : Nat} {e : Nat → Int64} (h4 : t < 4) (hM : M ≤ 6) (hMN : M ≤ N) (hN : N ≤ 60) : ∀ d k h pa y σ, k ≤ M → M - k < d → xz_ σ b ga V G lw a N e M k pa y → xh_ σ b (28 + 5 * k) h → sp_hw h → pu_ok (Z_X0_goDeeper d σ (some b) (some a) (Int32.ofNat t) (Int32.ofNat k) (Int32.ofNat M)) (fun υ => ag_ b LW_ σ υ ∧ xz_ υ b ga V G lw a N e M k pa (xy_ V G lw (fun i => (e i).toInt32) t M d k h pa y) ∧ (∀ j h', j ≤ k → xh_ σ b (28 + 5 * j) h' → xh_ υ b (28 + 5 * j) h')) := by
  intro d
  induction d with
  | zero => intro k h pa y σ hk hd; omega
  | succ d ih =>
    intro k h pa y σ hk hd Z H hv
    show pu_ok (F_X0_goDeeper (Z_X0_goDeeper d) σ (some b) (some a) (Int32.ofNat t) (Int32.ofNat k) (Int32.ofNat M)) _
    have s0 := Z.1.1
    have hG := Z.1.2.1.1
    unfold F_X0_goDeeper xy_
    by_cases c : k = M
    · subst c
      rw [if_pos rfl, if_pos rfl, si_32 s0, pu_bs, Z.2.2.2.1, nu_of1, sp_32 s0, pu_bs]
      have key : ∀ m i τ q, i + m = k → m < q → ag_ b [17] σ τ → ah_fi τ 32 b = Int32.ofNat (y.1 + 1) → (∀ j, j < k → ah_ai τ (b + 63) j = Int32.ofNat (if j < i then y.2 j ||| 2 ^ pa j else y.2 j)) → pu_ok (F_X0_goDeeper_19 (Z_X0_goDeeper d) q τ (some b) (Int32.ofNat k) (Int32.ofNat i)) (fun υ => ag_ b LW_ σ υ ∧ xz_ υ b ga V G lw a N e k k pa (y.1 + 1, fun i => if i < k then y.2 i ||| 2 ^ pa i else y.2 i) ∧ (∀ j h', j ≤ k → xh_ σ b (28 + 5 * j) h' → xh_ υ b (28 + 5 * j) h')) := by
        intro m
        induction m with
        | zero =>
          intro i τ q hi hq A i1 i2
          obtain ⟨q, rfl⟩ : ∃ z, q = z + 1 := ⟨q - 1, by omega⟩
          unfold F_X0_goDeeper_19
          rw [if_pos ((nu_ofle (by omega) (by omega)).mpr (by omega))]
          obtain ⟨z1, z2, z3, z4, z5⟩ := Z
          refine pu_ret ⟨ag_mo (by decide) A, ⟨xk_ag A (by decide) z1, xr_ag A (by decide) z2, fun j hj => ?_, i1, fun j hj => by rw [ag_ai A s0 (by decide) (by decide)]; exact z5 j hj⟩, fun j h' hj Hj => ?_⟩
          · rw [i2 j hj, if_pos (by omega)]
            show _ = Int32.ofNat (if j < k then y.2 j ||| 2 ^ pa j else y.2 j) ∧ (if j < k then y.2 j ||| 2 ^ pa j else y.2 j) < 256
            rw [if_pos hj]
            exact ⟨rfl, (bo_ (z3 j hj).2 (z5 j hj).2).2⟩
          · obtain ⟨b1, b2, -⟩ := hb_ j (by omega)
            exact xh_ag A s0 b1 (by rw [b2]; simp; omega) Hj
        | succ m ihm =>
          intro i τ q hi hq A i1 i2
          obtain ⟨q, rfl⟩ : ∃ z, q = z + 1 := ⟨q - 1, by omega⟩
          have sτ := ag_sk A
          obtain ⟨z1, z2, z3, z4, z5⟩ := Z
          have e63 : ah_ai τ (b + 63) i = Int32.ofNat (y.2 i) := by rw [i2 i (by omega), if_neg (by omega)]
          have e64 : ah_ai τ (b + 64) i = Int32.ofNat (2 ^ pa i) := by rw [ag_ai A s0 (by decide) (by decide)]; exact (z5 i (by omega)).1
          unfold F_X0_goDeeper_19
          rw [if_neg (fun z => by have := (nu_ofle (by omega) (by omega)).mp z; omega)]
          simp only [sg_30 sτ, sg_31 sτ, pu_bs, al_63 sτ (show i < 6 by omega), al_64 sτ (show i < 6 by omega), e63, e64, (bo_ (z3 i (by omega)).2 (z5 i (by omega)).2).1, aw_63 sτ (show i < 6 by omega), nl_ar_1]
          refine ihm (i + 1) _ q (by omega) (by omega) (ag_wA A (fun _ => lb_sc (by decide) rfl (by decide))) i1 (fun j hj => ?_)
          rw [rw_ai_sA, if_pos rfl]
          by_cases z : j = i
          · rw [if_pos z, if_pos (by omega), z]
          · rw [if_neg z, i2 j hj]
            by_cases w : j < i
            · rw [if_pos w, if_pos (by omega)]
            · rw [if_neg w, if_neg (by omega)]
      exact key k 0 _ 1000 (by omega) (by omega) (ag_wI (ag_rf _ s0) (fun _ => lb_fo (by decide) rfl (by decide))) (by rw [rw_fi_sI, if_pos rfl, if_pos rfl]) (fun j hj => by rw [rw_ai_sI, if_neg (Nat.not_lt_zero _)]; exact (Z.2.2.1 j hj).1)
    · rw [if_neg c, if_neg (fun z => c ((nu_ofeq (by omega) (by omega)).mp z))]
      obtain ⟨k1, k2, k3⟩ := hb_ k (by omega)
      obtain ⟨n1, n2, n3⟩ := hb_ (k + 1) (by omega)
      have lk : sk_B.getD (28 + 5 * k) 99 ∉ [sk_B.getD (28 + 5 * (k + 1)) 99] := by rw [k2, n2]; simp
      have key : ∀ m p τ q y', p + m = G + 1 → m < q → ag_ b LW_ σ τ → xz_ τ b ga V G lw a N e M k pa y' → xh_ τ b (28 + 5 * k) h → (∀ j h', j ≤ k → xh_ σ b (28 + 5 * j) h' → xh_ τ b (28 + 5 * j) h') → pu_ok (F_X0_goDeeper_53 (Z_X0_goDeeper d) q τ (some b) (some a) (Int32.ofNat t) (Int32.ofNat k) (Int32.ofNat M) (xi_ p)) (fun υ => ag_ b LW_ σ υ ∧ xz_ υ b ga V G lw a N e M k pa (lp_ (fun p y => if (e k).toInt32 = -1 ∨ (e k).toInt32 = sp_go V G lw (Int32.ofNat (ix_ G p)) h t then xy_ V G lw (fun i => (e i).toInt32) t M d (k + 1) (sp_go V G lw (Int32.ofNat (ix_ G p)) h) (va_up pa k (eb_ G (ix_ G p))) y else y) m p y') ∧ (∀ j h', j ≤ k → xh_ σ b (28 + 5 * j) h' → xh_ υ b (28 + 5 * j) h')) := by
        intro m
        induction m with
        | zero =>
          intro p τ q y' hp hq A Zτ Hτ J
          obtain ⟨q, rfl⟩ : ∃ z, q = z + 1 := ⟨q - 1, by omega⟩
          have sτ := ag_sk A
          unfold F_X0_goDeeper_53
          rw [si_8 sτ, pu_bs, Zτ.1.2.1.2.1, if_pos ((xi_le hG (by omega)).mpr (by omega))]
          exact pu_ret ⟨A, Zτ, J⟩
        | succ m ihm =>
          intro p τ q y' hp hq A Zτ Hτ J
          obtain ⟨q, rfl⟩ : ∃ z, q = z + 1 := ⟨q - 1, by omega⟩
          have sτ := ag_sk A
          unfold F_X0_goDeeper_53 lp_
          rw [si_8 sτ, pu_bs, Zτ.1.2.1.2.1, if_neg (fun z => by have := (xi_le hG (by omega)).mp z; omega)]
          have q1 : ∀ υ, sk_ok υ b → ah_ar υ (b + 27) (k + 1) = some (b + (28 + 5 * (k + 1))) := fun υ hυ => hυ.2.2.2.2 _ n3
          have q2 : ∀ υ, sk_ok υ b → ah_ar υ (b + 27) k = some (b + (28 + 5 * k)) := fun υ hυ => hυ.2.2.2.2 _ k3
          simp only [sg_29 sτ, pu_bs, nl_ar_1, al_27 sτ (show k + 1 < 7 by omega), al_27 sτ (show k < 7 by omega), q1 τ sτ, q2 τ sτ, hu_is sτ n1]
          refine pu_bind (fx_beAs sτ n1 k1 (by omega) hv Hτ) ?_
          rintro τ1 ⟨A1, H1⟩
          have s1 := ag_sk A1
          have hx1 : xk_ τ1 b ga V G lw := xk_ag A1 (by rw [n2]; simp; omega) Zτ.1
          simp only [sg_29 s1, pu_bs, al_27 s1 (show k + 1 < 7 by omega), q1 τ1 s1, hu_is s1 n1]
          rw [xi_c hG (by omega)]
          refine pu_bind (fx_go (Int32.ofNat (ix_ G p)) s1 hx1.2.1 hx1.2.2.1 hx1.2.2.2 n1 hv H1) ?_
          rintro τ2 ⟨A2, H2⟩
          rw [← xi_c hG (by omega)]
          have s2 := ag_sk A2
          have hv2 := sp_hwg (x := Int32.ofNat (ix_ G p)) (lw := lw) hx1.2.2.2 hG hv
          have L1 : ag_ b [sk_B.getD (28 + 5 * (k + 1)) 99, 11] τ τ2 := ag_tr (ag_mo (by simp) A1) A2
          have Z2 : xz_ τ2 b ga V G lw a N e M k pa y' := xz_ag L1 (by rw [n2]; simp; omega) (by rw [n2]; simp; omega) (by rw [n2]; simp; omega) (by rw [n2]; simp; omega) Zτ
          have J2 : ∀ j h', j ≤ k → xh_ τ b (28 + 5 * j) h' → xh_ τ2 b (28 + 5 * j) h' := fun j h' hj Hj => by
            obtain ⟨b1, b2, -⟩ := hb_ j (by omega)
            exact xh_ag L1 sτ b1 (by rw [b2, n2]; simp; omega) Hj
          have lw60 : 60 + (k + 1) ∈ LW_ := by
            have : ∀ k, k < 6 → 60 + (k + 1) ∈ LW_ := by decide
            exact this k (by omega)
          have A3 : ag_ b LW_ σ τ2 := ag_tr A (ag_mo (fun l hl => by
            rw [n2] at hl
            simp only [List.mem_cons, List.not_mem_nil, or_false] at hl
            rcases hl with rfl | rfl
            · exact lw60
            · decide) L1)
          have el : ah_lA τ2 102 (some a) (Int32.ofNat k) = some ((e k).toInt32) := by
            obtain ⟨-, -, r3, r4, r5, -⟩ := Z2.2.1
            rw [dy_lA (show ah_tg τ2 a = 102 from r3) r4 (by omega) (by omega), r5 (by decide) k (by omega)]
          have deep : pu_ok (F_X0_goDeeper_121 (Z_X0_goDeeper d) (F_X0_goDeeper_53 (Z_X0_goDeeper d) q) τ2 (some b) (some a) (Int32.ofNat t) (Int32.ofNat k) (Int32.ofNat M) (xi_ p)) (fun υ => ag_ b LW_ σ υ ∧ xz_ υ b ga V G lw a N e M k pa (lp_ (fun p y => if (e k).toInt32 = -1 ∨ (e k).toInt32 = sp_go V G lw (Int32.ofNat (ix_ G p)) h t then xy_ V G lw (fun i => (e i).toInt32) t M d (k + 1) (sp_go V G lw (Int32.ofNat (ix_ G p)) h) (va_up pa k (eb_ G (ix_ G p))) y else y) m (p + 1) (xy_ V G lw (fun i => (e i).toInt32) t M d (k + 1) (sp_go V G lw (Int32.ofNat (ix_ G p)) h) (va_up pa k (eb_ G (ix_ G p))) y')) ∧ (∀ j h', j ≤ k → xh_ σ b (28 + 5 * j) h' → xh_ υ b (28 + 5 * j) h')) := by
            have ebl : eb_ G (ix_ G p) < 8 := by
              unfold eb_ ix_
              split <;> split <;> omega
            have go1 : ∀ v, v = Int32.ofNat (2 ^ eb_ G (ix_ G p)) → pu_ok ((ah_wA τ2 101 (some (b + 64)) (Int32.ofNat k) v).bind fun σ5 => (ah_is σ5 1 (some b)).bind fun _ => (Z_X0_goDeeper d σ5 (some b) (some a) (Int32.ofNat t) (Int32.ofNat k + 1) (Int32.ofNat M)).bind fun σ7 => F_X0_goDeeper_53 (Z_X0_goDeeper d) q σ7 (some b) (some a) (Int32.ofNat t) (Int32.ofNat k) (Int32.ofNat M) (xi_ p + 1)) (fun υ => ag_ b LW_ σ υ ∧ xz_ υ b ga V G lw a N e M k pa (lp_ (fun p y => if (e k).toInt32 = -1 ∨ (e k).toInt32 = sp_go V G lw (Int32.ofNat (ix_ G p)) h t then xy_ V G lw (fun i => (e i).toInt32) t M d (k + 1) (sp_go V G lw (Int32.ofNat (ix_ G p)) h) (va_up pa k (eb_ G (ix_ G p))) y else y) m (p + 1) (xy_ V G lw (fun i => (e i).toInt32) t M d (k + 1) (sp_go V G lw (Int32.ofNat (ix_ G p)) h) (va_up pa k (eb_ G (ix_ G p))) y')) ∧ (∀ j h', j ≤ k → xh_ σ b (28 + 5 * j) h' → xh_ υ b (28 + 5 * j) h')) := by
              intro v hv'
              have A4 : ag_ b [18] τ2 (ah_sA τ2 (b + 64) k v) := ag_wA (ag_rf _ s2) (fun _ => lb_sc (by decide) rfl (by decide))
              have s4 := ag_sk A4
              have Z4 : xz_ (ah_sA τ2 (b + 64) k v) b ga V G lw a N e M (k + 1) (va_up pa k (eb_ G (ix_ G p))) y' := by
                obtain ⟨z1, z2, z3, z4, z5⟩ := Z2
                refine ⟨xk_ag A4 (by decide) z1, xr_ag A4 (by decide) z2, fun i hi => by rw [ag_ai A4 s2 (by decide) (by decide)]; exact z3 i hi, z4, fun i hi => ?_⟩
                rw [rw_ai_sA, if_pos rfl]
                unfold va_up
                by_cases z : i = k
                · rw [if_pos z, if_pos z]; exact ⟨hv', ebl⟩
                · rw [if_neg z, if_neg z]; exact z5 i (by omega)
              have H4 : xh_ (ah_sA τ2 (b + 64) k v) b (28 + 5 * (k + 1)) (sp_go V G lw (Int32.ofNat (ix_ G p)) h) := xh_ag A4 s2 n1 (by rw [n2]; simp; omega) H2
              have J4 : ∀ j h', j ≤ k → xh_ τ2 b (28 + 5 * j) h' → xh_ (ah_sA τ2 (b + 64) k v) b (28 + 5 * j) h' := fun j h' hj Hj => by
                obtain ⟨b1, b2, -⟩ := hb_ j (by omega)
                exact xh_ag A4 s2 b1 (by rw [b2]; simp; omega) Hj
              rw [aw_64 s2 (by omega), pu_bs, ss_0 s4, pu_bs, nl_ar_1]
              refine pu_bind (ih (k + 1) _ _ y' _ (by omega) (by omega) Z4 H4 hv2) ?_
              rintro τ5 ⟨A5, Z5, J5⟩
              rw [xi_s]
              obtain ⟨z1, z2, z3, z4, z5⟩ := Z5
              refine ihm (p + 1) τ5 q _ (by omega) (by omega) (ag_tr A3 (ag_tr (ag_mo (by decide) A4) A5)) ⟨z1, z2, z3, z4, fun i hi => ?_⟩ (J5 k h (by omega) (J4 k h (by omega) (J2 k h (by omega) Hτ))) (fun j h' hj Hj => J5 j h' (by omega) (J4 j h' hj (J2 j h' hj (J j h' hj Hj))))
              have := z5 i (by omega)
              unfold va_up at this
              rw [if_neg (by omega)] at this
              exact this
            unfold F_X0_goDeeper_121
            rw [sg_31 s2, pu_bs]
            by_cases z : p = 0
            · rw [if_pos (by rw [z]; rfl)]
              refine go1 128 ?_
              unfold eb_ ix_
              rw [if_pos z, if_pos rfl]; rfl
            · have e1 : xi_ p = Int32.ofNat (p - 1) := by
                unfold xi_
                obtain ⟨r, rfl⟩ : ∃ r, p = r + 1 := ⟨p - 1, by omega⟩
                exact nu_s1
              rw [if_neg (by rw [e1]; exact nu_ne1 (by omega))]
              refine go1 _ ?_
              rw [e1, bs_ _ (by omega)]
              unfold eb_ ix_
              rw [if_neg z, if_neg (by omega)]
          rw [el, pu_bs]
          by_cases w1 : (e k).toInt32 = -1
          · rw [if_pos w1, if_pos (Or.inl w1)]; exact deep
          · rw [if_neg w1, pu_bs]
            simp only [sg_29 s2, pu_bs, al_27 s2 (show k + 1 < 7 by omega), q1 τ2 s2, hu_400 s2 n1, hu_l1 s2 n1 h4, H2.1 t h4]
            by_cases w2 : (e k).toInt32 = sp_go V G lw (Int32.ofNat (ix_ G p)) h t
            · rw [if_pos w2, if_pos (Or.inr w2)]; exact deep
            · rw [if_neg w2, if_neg (by rintro (z | z); exact w1 z; exact w2 z), xi_s]
              exact ihm (p + 1) τ2 q y' (by omega) (by omega) A3 Z2 (J2 k h (by omega) Hτ) (fun j h' hj Hj => J2 j h' hj (J j h' hj Hj))
      exact key (G + 1) 0 σ 1000 y (by omega) (by omega) (ag_rf _ s0) Z H (fun j h' _ Hj => Hj)
end
