/-! THE SYSTEM's METHODS: their walks (printed by gen_straw.py) -/
set_option maxRecDepth 100000
set_option maxHeartbeats 2000000 in
theorem wk_xdX4_run_9b {Γ : sv_G} (z : XZ) (K : XK) (hz : SP (sg_s0 Γ) (sg_dA Γ) z K) (w : Nat) (p : Nat) (hw : w < 3) (hp : p < 2) (hC : sv_C Γ cX4_run 5 RX4 (some .int) rm_X4_run) {r0 : Int32 × MSt} (hQ : sv_RQ Γ (sv_pI r0.1 (SW (sg_dA Γ) z K r0.2)) 0 0)  (rk_9 : Int32 → Int32 → Int32 → MSt → Option (Int32 × MSt)) (hk_9 : ∀ (x2 : Int32) (x3 : Int32) (x4 : Int32) (σ : MSt), rk_9 x2 x3 x4 σ = some r0 → sv_V Γ (SW (sg_dA Γ) z K σ) 0 0 9 [(0, .ref (z.1 (11 + w))), (1, .ref (z.1 (5 + p))), (2, .int x2), (3, .int x3), (4, .int x4)] []) (x2 : Int32) (x3 : Int32) (x4 : Int32) (σ : MSt)  (h : xdX4_run_9b K w p rk_9 x2 x3 x4 σ = some r0) : sv_V Γ (SW (sg_dA Γ) z K σ) 0 0 9 [(0, .ref (z.1 (11 + w))), (1, .ref (z.1 (5 + p))), (2, .int x2), (3, .int x3), (4, .int x4)] [] := by
  unfold xdX4_run_9b at h
  refine sv_iload hC dX4_run_9 4 rfl ?_
  refine sv_iload_n hC dX4_run_11 2 rfl rfl ?_
  refine sv_icmp_ge hC (tgt := 42) dX4_run_12 (by decide) (fun c2 => ?_) (fun c2 => ?_)
  · have h := sv_it c2 h
    refine sv_iload_n hC dX4_run_42 3 rfl rfl ?_
    exact sv_iret hC hQ dX4_run_43 (by have e := Option.some.inj h; subst e; exact ⟨rfl, rfl⟩)
  · have h := sv_if c2 h
    refine sv_iload_n hC dX4_run_15 3 rfl rfl ?_
    refine sv_aload_n hC dX4_run_16 0 rfl rfl ?_
    refine sv_aload_n hC dX4_run_17 1 rfl rfl ?_
    refine sv_get hC in_X3 (5 + p) (sx_p (p := p) hp) rfl 0 (by decide) q136 rfl (v := .ref (z.1 (7 + 2 * p))) rfl dX4_run_18 ?_
    refine sv_iload hC dX4_run_21 4 rfl ?_
    obtain ⟨j3, ej3, h⟩ := sv_ob h
    refine sv_aldr hC (7 + 2 * p) 6 (sx_ps (p := p) hp) rfl rfl (j := j3) (b := z.1 (j3 + (21 + 42 * p) + 20)) ej3 rfl dX4_run_23 ?_
    refine sv_aload_n hC dX4_run_24 1 rfl rfl ?_
    refine sv_get hC in_X3 (5 + p) (sx_p (p := p) hp) rfl 1 (by decide) q139 rfl (v := .ref (z.1 (8 + 2 * p))) rfl dX4_run_25 ?_
    refine sv_iload hC dX4_run_28 4 rfl ?_
    obtain ⟨j4, ej4, h⟩ := sv_ob h
    refine sv_aldr hC (8 + 2 * p) 7 (sx_pr (p := p) hp) rfl rfl (j := j4) (b := z.1 (j4 + (42 + 42 * p) + 20)) ej4 rfl dX4_run_30 ?_
    obtain ⟨p5, ep5, h⟩ := sv_ob h
    refine sv_wVi (nn := 2) hC (met_xdX4_go hC.F z K hz w (j3 + (21 + 42 * p)) (j4 + (42 + 42 * p)) hw (XA_ps (p := p) (d := j3) hp (sv_ixl ej3)) (XA_pr (p := p) (d := j4) hp (sv_ixl ej4)) σ ep5) (11 + w) 5 (sx_w (w := w) hw) rfl rfl (lw_V q793 q794 q795 q57 q796) (by decide +kernel) ⟨by decide, by decide⟩ ⟨rfl, rfl⟩ rfl rfl (Nat.le_of_ble_eq_true rfl) ⟨Nat.le_refl 0, Nat.le_refl 0⟩ dX4_run_31 ?_
    refine sv_iadd hC dX4_run_34 ?_
    refine sv_istore_n hC dX4_run_35 rfl (by decide) (lvq := [(3, .int (x3 + p5.1)), (0, .ref (z.1 (11 + w))), (1, .ref (z.1 (5 + p))), (2, .int x2), (4, .int x4)]) rfl ?_
    refine sv_iinc hC (v := x4 + 1) dX4_run_36 4 rfl rfl (by decide) (lvq := [(4, .int (x4 + 1)), (3, .int (x3 + p5.1)), (0, .ref (z.1 (11 + w))), (1, .ref (z.1 (5 + p))), (2, .int x2)]) rfl ?_
    refine sv_goto hC (tgt := 9) dX4_run_39 (by decide) ?_
    refine sv_loc [2, 3, 4, 1, 0] (lvq := [(0, .ref (z.1 (11 + w))), (1, .ref (z.1 (5 + p))), (2, .int x2), (3, .int (x3 + p5.1)), (4, .int (x4 + 1))]) rfl ?_
    exact hk_9 x2 (x3 + p5.1) (x4 + 1) p5.2 h
set_option maxHeartbeats 2000000 in
theorem wk_xdX4_run_9 {Γ : sv_G} (z : XZ) (K : XK) (hz : SP (sg_s0 Γ) (sg_dA Γ) z K) (w : Nat) (p : Nat) (hw : w < 3) (hp : p < 2) (hC : sv_C Γ cX4_run 5 RX4 (some .int) rm_X4_run) {r0 : Int32 × MSt} (hQ : sv_RQ Γ (sv_pI r0.1 (SW (sg_dA Γ) z K r0.2)) 0 0)  : ∀ (n : Nat) (x2 : Int32) (x3 : Int32) (x4 : Int32) (σ : MSt)  (h : xdX4_run_9 K w p n x2 x3 x4 σ = some r0), sv_V Γ (SW (sg_dA Γ) z K σ) 0 0 9 [(0, .ref (z.1 (11 + w))), (1, .ref (z.1 (5 + p))), (2, .int x2), (3, .int x3), (4, .int x4)] [] := by
  intro n
  induction n with
  | zero => intro x2 x3 x4 σ h; cases h
  | succ n ih => intro x2 x3 x4 σ h; exact wk_xdX4_run_9b z K hz w p hw hp hC hQ (xdX4_run_9 K w p n) ih x2 x3 x4 σ h
set_option maxHeartbeats 2000000 in
theorem wk_xdX4_run {Γ : sv_G} (z : XZ) (K : XK) (hz : SP (sg_s0 Γ) (sg_dA Γ) z K) (w : Nat) (p : Nat) (hw : w < 3) (hp : p < 2) (hC : sv_C Γ cX4_run 5 RX4 (some .int) rm_X4_run) {r0 : Int32 × MSt} (hQ : sv_RQ Γ (sv_pI r0.1 (SW (sg_dA Γ) z K r0.2)) 0 0) (x2 : Int32) (σ : MSt) (h : xdX4_run K w p x2 σ = some r0) : sv_V Γ (SW (sg_dA Γ) z K σ) 0 0 0 [(0, .ref (z.1 (11 + w))), (1, .ref (z.1 (5 + p))), (2, .int x2)] [] := by
  unfold xdX4_run at h
  refine sv_aload_n hC dX4_run_0 0 rfl rfl ?_
  obtain ⟨s1, es1, h⟩ := sv_ob h
  refine sv_wVv (nn := 0) hC (met_xdX4_begin hC.F z K hz w hw σ es1) (11 + w) 5 (sx_w (w := w) hw) rfl rfl (lw_V q783 q784 q785 q57 q786) (by decide +kernel) ⟨by decide, by decide⟩ ⟨rfl, rfl⟩ rfl rfl (Nat.le_of_ble_eq_true rfl) ⟨Nat.le_refl 0, Nat.le_refl 0⟩ dX4_run_1 ?_
  refine sv_iconst hC (v := 0) dX4_run_4 (by decide) ?_
  refine sv_istore_n hC dX4_run_5 rfl (by decide) (lvq := [(3, .int 0), (0, .ref (z.1 (11 + w))), (1, .ref (z.1 (5 + p))), (2, .int x2)]) rfl ?_
  refine sv_iconst hC (v := 0) dX4_run_6 (by decide) ?_
  refine sv_istore hC dX4_run_7 (by decide) (lvq := [(4, .int 0), (3, .int 0), (0, .ref (z.1 (11 + w))), (1, .ref (z.1 (5 + p))), (2, .int x2)]) rfl ?_
  refine sv_loc [2, 3, 4, 1, 0] (lvq := [(0, .ref (z.1 (11 + w))), (1, .ref (z.1 (5 + p))), (2, .int x2), (3, .int 0), (4, .int 0)]) rfl ?_
  exact wk_xdX4_run_9 z K hz w p hw hp hC hQ sv_FU x2 0 0 s1 h
set_option maxHeartbeats 2000000 in
theorem met_xdX4_run {l : Launch} {s0 : State} {D : va_G} {dA : Nat → ClassId} (hF : sv_F s0 D dA) (z : XZ) (K : XK) (hz : SP s0 dA z K) (w : Nat) (p : Nat) (hw : w < 3) (hp : p < 2) (x2 : Int32) (σ : MSt) {r0 : Int32 × MSt} (h : xdX4_run K w p x2 σ = some r0) : sv_M l s0 D yX4_run cX4_run 5 (some .int) rm_X4_run [.ref (z.1 (11 + w)), .ref (z.1 (5 + p)), .int x2] (SW dA z K σ) (sv_pI r0.1 (SW dA z K r0.2)) :=
  sv_met hF (by decide) (Nat.le_of_ble_eq_true rfl) (fun Γ hC hQ hmn e1 e2 e3 e4 => by
    subst e1 e2 e3 e4
    exact wk_xdX4_run z K hz w p hw hp hC hQ x2 σ h)
set_option maxHeartbeats 2000000 in
theorem wk_xdX0_went {Γ : sv_G} (z : XZ) (K : XK) (hz : SP (sg_s0 Γ) (sg_dA Γ) z K) (hC : sv_C Γ cX0_went 3 RX0 (some .int) rm_X0_went) {r0 : Int32 × MSt} (hQ : sv_RQ Γ (sv_pI r0.1 (SW (sg_dA Γ) z K r0.2)) 0 0) (x1 : Int32) (x2 : Int32) (σ : MSt) (h : xdX0_went K x1 x2 σ = some r0) : sv_V Γ (SW (sg_dA Γ) z K σ) 0 0 0 [(0, .ref (z.1 0)), (1, .int x1), (2, .int x2)] [] := by
  unfold xdX0_went at h
  refine sv_aload_n hC dX0_went_0 0 rfl rfl ?_
  refine sv_iload_n hC dX0_went_1 1 rfl rfl ?_
  obtain ⟨r1, er1, h⟩ := sv_ob h
  refine sv_wVi (nn := 1) hC (met_xdX0_isDay hC.F z K hz σ x1 er1) 0 1 (sx_at (by decide)) rfl rfl (lw_V q775 q777 qs9 q52 q778) (by decide +kernel) ⟨by decide, by decide⟩ ⟨rfl, rfl⟩ rfl rfl (Nat.le_of_ble_eq_true rfl) ⟨Nat.le_refl 0, Nat.le_refl 0⟩ dX0_went_2 ?_
  refine sv_if_eq hC (tgt := 16) dX0_went_5 (by decide) (fun c2 => ?_) (fun c2 => ?_)
  · have h := sv_it c2 h
    refine sv_bipush hC (v := (-2)) dX0_went_16 (by decide) ?_
    exact sv_iret hC hQ dX0_went_18 (by have e := Option.some.inj h; subst e; exact ⟨rfl, rfl⟩)
  · have h := sv_if c2 h
    refine sv_aload_n hC dX0_went_8 0 rfl rfl ?_
    refine sv_iload_n hC dX0_went_9 2 rfl rfl ?_
    obtain ⟨r3, er3, h⟩ := sv_ob h
    refine sv_wVi (nn := 1) hC (met_xdX0_isFlock hC.F z K hz σ x2 er3) 0 1 (sx_at (by decide)) rfl rfl (lw_V q745 q747 qs7 q52 q748) (by decide +kernel) ⟨by decide, by decide⟩ ⟨rfl, rfl⟩ rfl rfl (Nat.le_of_ble_eq_true rfl) ⟨Nat.le_refl 0, Nat.le_refl 0⟩ dX0_went_10 ?_
    refine sv_if_ne hC (tgt := 19) dX0_went_13 (by decide) (fun c4 => ?_) (fun c4 => ?_)
    · have h := sv_if c4 h
      refine sv_aload_n hC dX0_went_19 0 rfl rfl ?_
      refine sv_get hC in_X0 0 (sx_at (by decide)) rfl 10 (by decide) q237 rfl (v := .ref (z.1 11)) rfl dX0_went_20 ?_
      refine sv_aload_n hC dX0_went_23 0 rfl rfl ?_
      refine sv_get hC in_X0 0 (sx_at (by decide)) rfl 8 (by decide) q235 rfl (v := .ref (z.1 5)) rfl dX0_went_24 ?_
      refine sv_iload_n hC dX0_went_27 1 rfl rfl ?_
      refine sv_iconst hC (v := 1) dX0_went_28 (by decide) ?_
      refine sv_iadd hC dX0_went_29 ?_
      obtain ⟨p5, ep5, h⟩ := sv_ob h
      refine sv_wVi (nn := 2) hC (met_xdX4_run hC.F z K hz 0 0 (by decide) (by decide) (x1 + 1) σ ep5) (11 + 0) 5 (sx_w (w := 0) (by decide)) rfl rfl (lw_V q779 q780 q781 q57 q782) (by decide +kernel) ⟨by decide, by decide⟩ ⟨rfl, rfl⟩ rfl rfl (Nat.le_of_ble_eq_true rfl) ⟨Nat.le_refl 0, Nat.le_refl 0⟩ dX0_went_30 ?_
      refine sv_pop hC dX0_went_33 rfl ?_
      refine sv_aload_n hC dX0_went_34 0 rfl rfl ?_
      refine sv_get hC in_X0 0 (sx_at (by decide)) rfl 10 (by decide) q237 rfl (v := .ref (z.1 11)) rfl dX0_went_35 ?_
      refine sv_get hC in_X4 (11 + 0) (sx_w (w := 0) (by decide)) rfl 2 (by decide) q160 rfl (v := .ref (z.1 (7 * 0 + 5 + 20))) rfl dX0_went_38 ?_
      refine sv_iload_n hC dX0_went_41 2 rfl rfl ?_
      obtain ⟨j6, ej6, h⟩ := sv_ob h
      refine sv_iald hC (7 * 0 + 5 + 20) (f := p5.2.2 (7 * 0 + 5)) (sx_a (XA_fl (w := 0) (by decide))) rfl (j := j6) ej6 dX0_went_42 ?_
      exact sv_iret hC hQ dX0_went_43 (by have e := Option.some.inj h; subst e; exact ⟨rfl, rfl⟩)
    · have h := sv_it c4 h
      refine sv_bipush hC (v := (-2)) dX0_went_16 (by decide) ?_
      exact sv_iret hC hQ dX0_went_18 (by have e := Option.some.inj h; subst e; exact ⟨rfl, rfl⟩)
set_option maxHeartbeats 2000000 in
theorem met_xdX0_went {l : Launch} {s0 : State} {D : va_G} {dA : Nat → ClassId} (hF : sv_F s0 D dA) (z : XZ) (K : XK) (hz : SP s0 dA z K) (x1 : Int32) (x2 : Int32) (σ : MSt) {r0 : Int32 × MSt} (h : xdX0_went K x1 x2 σ = some r0) : sv_M l s0 D yX0_went cX0_went 3 (some .int) rm_X0_went [.ref (z.1 0), .int x1, .int x2] (SW dA z K σ) (sv_pI r0.1 (SW dA z K r0.2)) :=
  sv_met hF (by decide) (Nat.le_of_ble_eq_true rfl) (fun Γ hC hQ hmn e1 e2 e3 e4 => by
    subst e1 e2 e3 e4
    exact wk_xdX0_went z K hz hC hQ x1 x2 σ h)
set_option maxHeartbeats 2000000 in
theorem wk_xdX0_eaten_62 {Γ : sv_G} (z : XZ) (K : XK) (hz : SP (sg_s0 Γ) (sg_dA Γ) z K) (hC : sv_C Γ cX0_eaten 5 RX0 (some .int) rm_X0_eaten) {r0 : Int32 × MSt} (hQ : sv_RQ Γ (sv_pI r0.1 (SW (sg_dA Γ) z K r0.2)) 0 0) (rk_44 : Int32 → Int32 → Int32 → MSt → Option (Int32 × MSt)) (hk_44 : ∀ (x2 : Int32) (x3 : Int32) (x4 : Int32) (σ : MSt), rk_44 x2 x3 x4 σ = some r0 → sv_V Γ (SW (sg_dA Γ) z K σ) 0 0 44 [(0, .ref (z.1 0)), (2, .int x2), (3, .int x3), (4, .int x4)] []) (x2 : Int32) (x4 : Int32) (t0 : Int32) (σ : MSt)  (h : xdX0_eaten_62 K rk_44 x2 x4 t0 σ = some r0) : sv_V Γ (SW (sg_dA Γ) z K σ) 0 0 62 [(0, .ref (z.1 0)), (2, .int x2), (4, .int x4)] [.int t0] := by
  unfold xdX0_eaten_62 at h
  refine sv_aload_n hC dX0_eaten_62 0 rfl rfl ?_
  refine sv_get hC in_X0 0 (sx_at (by decide)) rfl 10 (by decide) q237 rfl (v := .ref (z.1 11)) rfl dX0_eaten_63 ?_
  refine sv_get hC in_X4 (11 + 0) (sx_w (w := 0) (by decide)) rfl 3 (by decide) q162 rfl (v := .ref (z.1 (7 * 0 + 6 + 20))) rfl dX0_eaten_66 ?_
  refine sv_iload hC dX0_eaten_69 2 rfl ?_
  obtain ⟨j10, ej10, h⟩ := sv_ob h
  refine sv_iald hC (7 * 0 + 6 + 20) (f := σ.2 (7 * 0 + 6)) (sx_a (XA_tk (w := 0) (by decide))) rfl (j := j10) ej10 dX0_eaten_71 ?_
  refine sv_goto hC (tgt := 76) dX0_eaten_72 (by decide) ?_
  refine sv_iadd hC dX0_eaten_76 ?_
  refine sv_istore_n hC dX0_eaten_77 rfl (by decide) (lvq := [(3, .int (t0 + (σ.2 (7 * 0 + 6) j10))), (0, .ref (z.1 0)), (2, .int x2), (4, .int x4)]) rfl ?_
  refine sv_iinc hC (v := x4 + 1) dX0_eaten_78 3 rfl rfl (by decide) (lvq := [(4, .int (x4 + 1)), (3, .int (t0 + (σ.2 (7 * 0 + 6) j10))), (0, .ref (z.1 0)), (2, .int x2)]) rfl ?_
  refine sv_goto hC (tgt := 44) dX0_eaten_81 (by decide) ?_
  refine sv_loc [2, 3, 1, 0] (lvq := [(0, .ref (z.1 0)), (2, .int x2), (3, .int (t0 + (σ.2 (7 * 0 + 6) j10))), (4, .int (x4 + 1))]) rfl ?_
  exact hk_44 x2 (t0 + (σ.2 (7 * 0 + 6) j10)) (x4 + 1) σ h
set_option maxHeartbeats 2000000 in
theorem wk_xdX0_eaten_44b {Γ : sv_G} (z : XZ) (K : XK) (hz : SP (sg_s0 Γ) (sg_dA Γ) z K) (hC : sv_C Γ cX0_eaten 5 RX0 (some .int) rm_X0_eaten) {r0 : Int32 × MSt} (hQ : sv_RQ Γ (sv_pI r0.1 (SW (sg_dA Γ) z K r0.2)) 0 0)  (rk_44 : Int32 → Int32 → Int32 → MSt → Option (Int32 × MSt)) (hk_44 : ∀ (x2 : Int32) (x3 : Int32) (x4 : Int32) (σ : MSt), rk_44 x2 x3 x4 σ = some r0 → sv_V Γ (SW (sg_dA Γ) z K σ) 0 0 44 [(0, .ref (z.1 0)), (2, .int x2), (3, .int x3), (4, .int x4)] []) (x2 : Int32) (x3 : Int32) (x4 : Int32) (σ : MSt)  (h : xdX0_eaten_44b K rk_44 x2 x3 x4 σ = some r0) : sv_V Γ (SW (sg_dA Γ) z K σ) 0 0 44 [(0, .ref (z.1 0)), (2, .int x2), (3, .int x3), (4, .int x4)] [] := by
  unfold xdX0_eaten_44b at h
  refine sv_iload hC dX0_eaten_44 3 rfl ?_
  refine sv_iconst hC (v := 4) dX0_eaten_46 (by decide) ?_
  refine sv_icmp_ge hC (tgt := 84) dX0_eaten_47 (by decide) (fun c7 => ?_) (fun c7 => ?_)
  · have h := sv_it c7 h
    refine sv_iload_n hC dX0_eaten_84 2 rfl rfl ?_
    exact sv_iret hC hQ dX0_eaten_85 (by have e := Option.some.inj h; subst e; exact ⟨rfl, rfl⟩)
  · have h := sv_if c7 h
    refine sv_iload_n hC dX0_eaten_50 2 rfl rfl ?_
    refine sv_iload_n hC dX0_eaten_51 1 rfl rfl ?_
    refine sv_iconst hC (v := (-1)) dX0_eaten_52 (by decide) ?_
    refine sv_icmp_eq hC (tgt := 62) dX0_eaten_53 (by decide) (fun c8 => ?_) (fun c8 => ?_)
    · have h := sv_it c8 h
      refine sv_loc [0, 1, 3] (lvq := [(0, .ref (z.1 0)), (2, .int x2), (4, .int x4)]) rfl ?_
      exact wk_xdX0_eaten_62 z K hz hC hQ rk_44 hk_44 x2 x4 x3 σ h
    · have h := sv_if c8 h
      refine sv_iload_n hC dX0_eaten_56 1 rfl rfl ?_
      refine sv_iload hC dX0_eaten_57 3 rfl ?_
      refine sv_icmp_ne hC (tgt := 75) dX0_eaten_59 (by decide) (fun c9 => ?_) (fun c9 => ?_)
      · have h := sv_if c9 h
        refine sv_iconst hC (v := 0) dX0_eaten_75 (by decide) ?_
        refine sv_iadd hC dX0_eaten_76 ?_
        refine sv_istore_n hC dX0_eaten_77 rfl (by decide) (lvq := [(3, .int (x3 + 0)), (0, .ref (z.1 0)), (2, .int x2), (4, .int x4)]) rfl ?_
        refine sv_iinc hC (v := x4 + 1) dX0_eaten_78 3 rfl rfl (by decide) (lvq := [(4, .int (x4 + 1)), (3, .int (x3 + 0)), (0, .ref (z.1 0)), (2, .int x2)]) rfl ?_
        refine sv_goto hC (tgt := 44) dX0_eaten_81 (by decide) ?_
        refine sv_loc [2, 3, 1, 0] (lvq := [(0, .ref (z.1 0)), (2, .int x2), (3, .int (x3 + 0)), (4, .int (x4 + 1))]) rfl ?_
        exact hk_44 x2 (x3 + 0) (x4 + 1) σ h
      · have h := sv_it c9 h
        refine sv_loc [0, 1, 3] (lvq := [(0, .ref (z.1 0)), (2, .int x2), (4, .int x4)]) rfl ?_
        exact wk_xdX0_eaten_62 z K hz hC hQ rk_44 hk_44 x2 x4 x3 σ h
set_option maxHeartbeats 2000000 in
theorem wk_xdX0_eaten_44 {Γ : sv_G} (z : XZ) (K : XK) (hz : SP (sg_s0 Γ) (sg_dA Γ) z K) (hC : sv_C Γ cX0_eaten 5 RX0 (some .int) rm_X0_eaten) {r0 : Int32 × MSt} (hQ : sv_RQ Γ (sv_pI r0.1 (SW (sg_dA Γ) z K r0.2)) 0 0)  : ∀ (n : Nat) (x2 : Int32) (x3 : Int32) (x4 : Int32) (σ : MSt)  (h : xdX0_eaten_44 K n x2 x3 x4 σ = some r0), sv_V Γ (SW (sg_dA Γ) z K σ) 0 0 44 [(0, .ref (z.1 0)), (2, .int x2), (3, .int x3), (4, .int x4)] [] := by
  intro n
  induction n with
  | zero => intro x2 x3 x4 σ h; cases h
  | succ n ih => intro x2 x3 x4 σ h; exact wk_xdX0_eaten_44b z K hz hC hQ (xdX0_eaten_44 K n) ih x2 x3 x4 σ h
set_option maxHeartbeats 2000000 in
theorem wk_xdX0_eaten_24 {Γ : sv_G} (z : XZ) (K : XK) (hz : SP (sg_s0 Γ) (sg_dA Γ) z K) (hC : sv_C Γ cX0_eaten 5 RX0 (some .int) rm_X0_eaten) {r0 : Int32 × MSt} (hQ : sv_RQ Γ (sv_pI r0.1 (SW (sg_dA Γ) z K r0.2)) 0 0)  (x1 : Int32) (x2 : Int32) (σ : MSt)  (h : xdX0_eaten_24 K x1 x2 σ = some r0) : sv_V Γ (SW (sg_dA Γ) z K σ) 0 0 24 [(0, .ref (z.1 0)), (1, .int x1), (2, .int x2)] [] := by
  unfold xdX0_eaten_24 at h
  refine sv_aload_n hC dX0_eaten_24 0 rfl rfl ?_
  refine sv_get hC in_X0 0 (sx_at (by decide)) rfl 10 (by decide) q237 rfl (v := .ref (z.1 11)) rfl dX0_eaten_25 ?_
  refine sv_aload_n hC dX0_eaten_28 0 rfl rfl ?_
  refine sv_get hC in_X0 0 (sx_at (by decide)) rfl 8 (by decide) q235 rfl (v := .ref (z.1 5)) rfl dX0_eaten_29 ?_
  refine sv_iload_n hC dX0_eaten_32 1 rfl rfl ?_
  refine sv_iconst hC (v := 1) dX0_eaten_33 (by decide) ?_
  refine sv_iadd hC dX0_eaten_34 ?_
  obtain ⟨p6, ep6, h⟩ := sv_ob h
  refine sv_wVi (nn := 2) hC (met_xdX4_run hC.F z K hz 0 0 (by decide) (by decide) (x1 + 1) σ ep6) (11 + 0) 5 (sx_w (w := 0) (by decide)) rfl rfl (lw_V q779 q780 q781 q57 q782) (by decide +kernel) ⟨by decide, by decide⟩ ⟨rfl, rfl⟩ rfl rfl (Nat.le_of_ble_eq_true rfl) ⟨Nat.le_refl 0, Nat.le_refl 0⟩ dX0_eaten_35 ?_
  refine sv_pop hC dX0_eaten_38 rfl ?_
  refine sv_iconst hC (v := 0) dX0_eaten_39 (by decide) ?_
  refine sv_istore_n hC dX0_eaten_40 rfl (by decide) (lvq := [(3, .int 0), (0, .ref (z.1 0)), (1, .int x1), (2, .int x2)]) rfl ?_
  refine sv_iconst hC (v := 0) dX0_eaten_41 (by decide) ?_
  refine sv_istore hC dX0_eaten_42 (by decide) (lvq := [(4, .int 0), (3, .int 0), (0, .ref (z.1 0)), (1, .int x1), (2, .int x2)]) rfl ?_
  refine sv_loc [2, 4, 1, 0] (lvq := [(0, .ref (z.1 0)), (2, .int x2), (3, .int 0), (4, .int 0)]) rfl ?_
  exact wk_xdX0_eaten_44 z K hz hC hQ sv_FU x2 0 0 p6.2 h
set_option maxHeartbeats 2000000 in
theorem wk_xdX0_eaten {Γ : sv_G} (z : XZ) (K : XK) (hz : SP (sg_s0 Γ) (sg_dA Γ) z K) (hC : sv_C Γ cX0_eaten 5 RX0 (some .int) rm_X0_eaten) {r0 : Int32 × MSt} (hQ : sv_RQ Γ (sv_pI r0.1 (SW (sg_dA Γ) z K r0.2)) 0 0) (x1 : Int32) (x2 : Int32) (σ : MSt) (h : xdX0_eaten K x1 x2 σ = some r0) : sv_V Γ (SW (sg_dA Γ) z K σ) 0 0 0 [(0, .ref (z.1 0)), (1, .int x1), (2, .int x2)] [] := by
  unfold xdX0_eaten at h
  refine sv_aload_n hC dX0_eaten_0 0 rfl rfl ?_
  refine sv_iload_n hC dX0_eaten_1 1 rfl rfl ?_
  obtain ⟨r1, er1, h⟩ := sv_ob h
  refine sv_wVi (nn := 1) hC (met_xdX0_isDay hC.F z K hz σ x1 er1) 0 1 (sx_at (by decide)) rfl rfl (lw_V q775 q777 qs9 q52 q778) (by decide +kernel) ⟨by decide, by decide⟩ ⟨rfl, rfl⟩ rfl rfl (Nat.le_of_ble_eq_true rfl) ⟨Nat.le_refl 0, Nat.le_refl 0⟩ dX0_eaten_2 ?_
  refine sv_if_eq hC (tgt := 21) dX0_eaten_5 (by decide) (fun c2 => ?_) (fun c2 => ?_)
  · have h := sv_it c2 h
    refine sv_bipush hC (v := (-2)) dX0_eaten_21 (by decide) ?_
    exact sv_iret hC hQ dX0_eaten_23 (by have e := Option.some.inj h; subst e; exact ⟨rfl, rfl⟩)
  · have h := sv_if c2 h
    refine sv_iload_n hC dX0_eaten_8 2 rfl rfl ?_
    refine sv_iconst hC (v := (-1)) dX0_eaten_9 (by decide) ?_
    refine sv_icmp_eq hC (tgt := 24) dX0_eaten_10 (by decide) (fun c3 => ?_) (fun c3 => ?_)
    · have h := sv_it c3 h
      exact wk_xdX0_eaten_24 z K hz hC hQ x1 x2 σ h
    · have h := sv_if c3 h
      refine sv_aload_n hC dX0_eaten_13 0 rfl rfl ?_
      refine sv_iload_n hC dX0_eaten_14 2 rfl rfl ?_
      obtain ⟨r4, er4, h⟩ := sv_ob h
      refine sv_wVi (nn := 1) hC (met_xdX0_isField hC.F z K hz σ x2 er4) 0 1 (sx_at (by decide)) rfl rfl (lw_V q736 q738 qs6 q52 q739) (by decide +kernel) ⟨by decide, by decide⟩ ⟨rfl, rfl⟩ rfl rfl (Nat.le_of_ble_eq_true rfl) ⟨Nat.le_refl 0, Nat.le_refl 0⟩ dX0_eaten_15 ?_
      refine sv_if_ne hC (tgt := 24) dX0_eaten_18 (by decide) (fun c5 => ?_) (fun c5 => ?_)
      · have h := sv_if c5 h
        exact wk_xdX0_eaten_24 z K hz hC hQ x1 x2 σ h
      · have h := sv_it c5 h
        refine sv_bipush hC (v := (-2)) dX0_eaten_21 (by decide) ?_
        exact sv_iret hC hQ dX0_eaten_23 (by have e := Option.some.inj h; subst e; exact ⟨rfl, rfl⟩)
set_option maxHeartbeats 2000000 in
theorem met_xdX0_eaten {l : Launch} {s0 : State} {D : va_G} {dA : Nat → ClassId} (hF : sv_F s0 D dA) (z : XZ) (K : XK) (hz : SP s0 dA z K) (x1 : Int32) (x2 : Int32) (σ : MSt) {r0 : Int32 × MSt} (h : xdX0_eaten K x1 x2 σ = some r0) : sv_M l s0 D yX0_eaten cX0_eaten 5 (some .int) rm_X0_eaten [.ref (z.1 0), .int x1, .int x2] (SW dA z K σ) (sv_pI r0.1 (SW dA z K r0.2)) :=
  sv_met hF (by decide) (Nat.le_of_ble_eq_true rfl) (fun Γ hC hQ hmn e1 e2 e3 e4 => by
    subst e1 e2 e3 e4
    exact wk_xdX0_eaten z K hz hC hQ x1 x2 σ h)
set_option maxHeartbeats 2000000 in
theorem wk_xdX0_left {Γ : sv_G} (z : XZ) (K : XK) (hz : SP (sg_s0 Γ) (sg_dA Γ) z K) (hC : sv_C Γ cX0_left 3 RX0 (some .int) rm_X0_left) {r0 : Int32 × MSt} (hQ : sv_RQ Γ (sv_pI r0.1 (SW (sg_dA Γ) z K r0.2)) 0 0) (x1 : Int32) (x2 : Int32) (σ : MSt) (h : xdX0_left K x1 x2 σ = some r0) : sv_V Γ (SW (sg_dA Γ) z K σ) 0 0 0 [(0, .ref (z.1 0)), (1, .int x1), (2, .int x2)] [] := by
  unfold xdX0_left at h
  refine sv_aload_n hC dX0_left_0 0 rfl rfl ?_
  refine sv_iload_n hC dX0_left_1 1 rfl rfl ?_
  obtain ⟨r1, er1, h⟩ := sv_ob h
  refine sv_wVi (nn := 1) hC (met_xdX0_isDay hC.F z K hz σ x1 er1) 0 1 (sx_at (by decide)) rfl rfl (lw_V q775 q777 qs9 q52 q778) (by decide +kernel) ⟨by decide, by decide⟩ ⟨rfl, rfl⟩ rfl rfl (Nat.le_of_ble_eq_true rfl) ⟨Nat.le_refl 0, Nat.le_refl 0⟩ dX0_left_2 ?_
  refine sv_if_eq hC (tgt := 16) dX0_left_5 (by decide) (fun c2 => ?_) (fun c2 => ?_)
  · have h := sv_it c2 h
    refine sv_bipush hC (v := (-2)) dX0_left_16 (by decide) ?_
    exact sv_iret hC hQ dX0_left_18 (by have e := Option.some.inj h; subst e; exact ⟨rfl, rfl⟩)
  · have h := sv_if c2 h
    refine sv_aload_n hC dX0_left_8 0 rfl rfl ?_
    refine sv_iload_n hC dX0_left_9 2 rfl rfl ?_
    obtain ⟨r3, er3, h⟩ := sv_ob h
    refine sv_wVi (nn := 1) hC (met_xdX0_isField hC.F z K hz σ x2 er3) 0 1 (sx_at (by decide)) rfl rfl (lw_V q736 q738 qs6 q52 q739) (by decide +kernel) ⟨by decide, by decide⟩ ⟨rfl, rfl⟩ rfl rfl (Nat.le_of_ble_eq_true rfl) ⟨Nat.le_refl 0, Nat.le_refl 0⟩ dX0_left_10 ?_
    refine sv_if_ne hC (tgt := 19) dX0_left_13 (by decide) (fun c4 => ?_) (fun c4 => ?_)
    · have h := sv_if c4 h
      refine sv_aload_n hC dX0_left_19 0 rfl rfl ?_
      refine sv_get hC in_X0 0 (sx_at (by decide)) rfl 10 (by decide) q237 rfl (v := .ref (z.1 11)) rfl dX0_left_20 ?_
      refine sv_aload_n hC dX0_left_23 0 rfl rfl ?_
      refine sv_get hC in_X0 0 (sx_at (by decide)) rfl 8 (by decide) q235 rfl (v := .ref (z.1 5)) rfl dX0_left_24 ?_
      refine sv_iload_n hC dX0_left_27 1 rfl rfl ?_
      refine sv_iconst hC (v := 1) dX0_left_28 (by decide) ?_
      refine sv_iadd hC dX0_left_29 ?_
      obtain ⟨p5, ep5, h⟩ := sv_ob h
      refine sv_wVi (nn := 2) hC (met_xdX4_run hC.F z K hz 0 0 (by decide) (by decide) (x1 + 1) σ ep5) (11 + 0) 5 (sx_w (w := 0) (by decide)) rfl rfl (lw_V q779 q780 q781 q57 q782) (by decide +kernel) ⟨by decide, by decide⟩ ⟨rfl, rfl⟩ rfl rfl (Nat.le_of_ble_eq_true rfl) ⟨Nat.le_refl 0, Nat.le_refl 0⟩ dX0_left_30 ?_
      refine sv_pop hC dX0_left_33 rfl ?_
      refine sv_aload_n hC dX0_left_34 0 rfl rfl ?_
      refine sv_get hC in_X0 0 (sx_at (by decide)) rfl 10 (by decide) q237 rfl (v := .ref (z.1 11)) rfl dX0_left_35 ?_
      refine sv_get hC in_X4 (11 + 0) (sx_w (w := 0) (by decide)) rfl 0 (by decide) q156 rfl (v := .ref (z.1 (7 * 0 + 20))) rfl dX0_left_38 ?_
      refine sv_iload_n hC dX0_left_41 2 rfl rfl ?_
      obtain ⟨j6, ej6, h⟩ := sv_ob h
      refine sv_iald hC (7 * 0 + 20) (f := p5.2.2 (7 * 0)) (sx_a (XA_sd (w := 0) (by decide))) rfl (j := j6) ej6 dX0_left_42 ?_
      exact sv_iret hC hQ dX0_left_43 (by have e := Option.some.inj h; subst e; exact ⟨rfl, rfl⟩)
    · have h := sv_it c4 h
      refine sv_bipush hC (v := (-2)) dX0_left_16 (by decide) ?_
      exact sv_iret hC hQ dX0_left_18 (by have e := Option.some.inj h; subst e; exact ⟨rfl, rfl⟩)
set_option maxHeartbeats 2000000 in
theorem met_xdX0_left {l : Launch} {s0 : State} {D : va_G} {dA : Nat → ClassId} (hF : sv_F s0 D dA) (z : XZ) (K : XK) (hz : SP s0 dA z K) (x1 : Int32) (x2 : Int32) (σ : MSt) {r0 : Int32 × MSt} (h : xdX0_left K x1 x2 σ = some r0) : sv_M l s0 D yX0_left cX0_left 3 (some .int) rm_X0_left [.ref (z.1 0), .int x1, .int x2] (SW dA z K σ) (sv_pI r0.1 (SW dA z K r0.2)) :=
  sv_met hF (by decide) (Nat.le_of_ble_eq_true rfl) (fun Γ hC hQ hmn e1 e2 e3 e4 => by
    subst e1 e2 e3 e4
    exact wk_xdX0_left z K hz hC hQ x1 x2 σ h)
set_option maxHeartbeats 2000000 in
theorem wk_xdX0_fear_13 {Γ : sv_G} (z : XZ) (K : XK) (hz : SP (sg_s0 Γ) (sg_dA Γ) z K) (hC : sv_C Γ cX0_fear 4 RX0 (some .int) rm_X0_fear) {r0 : Int32 × MSt} (hQ : sv_RQ Γ (sv_pI r0.1 (SW (sg_dA Γ) z K r0.2)) 0 0)  (x1 : Int32) (x2 : Int32) (x3 : Int32) (σ : MSt)  (h : xdX0_fear_13 K x1 x2 x3 σ = some r0) : sv_V Γ (SW (sg_dA Γ) z K σ) 0 0 13 [(0, .ref (z.1 0)), (1, .int x1), (2, .int x2), (3, .int x3)] [] := by
  unfold xdX0_fear_13 at h
  refine sv_aload_n hC dX0_fear_13 0 rfl rfl ?_
  refine sv_iload_n hC dX0_fear_14 2 rfl rfl ?_
  obtain ⟨r4, er4, h⟩ := sv_ob h
  refine sv_wVi (nn := 1) hC (met_xdX0_isFlock hC.F z K hz σ x2 er4) 0 1 (sx_at (by decide)) rfl rfl (lw_V q745 q747 qs7 q52 q748) (by decide +kernel) ⟨by decide, by decide⟩ ⟨rfl, rfl⟩ rfl rfl (Nat.le_of_ble_eq_true rfl) ⟨Nat.le_refl 0, Nat.le_refl 0⟩ dX0_fear_15 ?_
  refine sv_if_eq hC (tgt := 29) dX0_fear_18 (by decide) (fun c5 => ?_) (fun c5 => ?_)
  · have h := sv_it c5 h
    refine sv_bipush hC (v := (-2)) dX0_fear_29 (by decide) ?_
    exact sv_iret hC hQ dX0_fear_31 (by have e := Option.some.inj h; subst e; exact ⟨rfl, rfl⟩)
  · have h := sv_if c5 h
    refine sv_aload_n hC dX0_fear_21 0 rfl rfl ?_
    refine sv_iload_n hC dX0_fear_22 3 rfl rfl ?_
    obtain ⟨r6, er6, h⟩ := sv_ob h
    refine sv_wVi (nn := 1) hC (met_xdX0_isCoat hC.F z K hz σ x3 er6) 0 1 (sx_at (by decide)) rfl rfl (lw_V q757 q759 qs8 q52 q760) (by decide +kernel) ⟨by decide, by decide⟩ ⟨rfl, rfl⟩ rfl rfl (Nat.le_of_ble_eq_true rfl) ⟨Nat.le_refl 0, Nat.le_refl 0⟩ dX0_fear_23 ?_
    refine sv_if_ne hC (tgt := 32) dX0_fear_26 (by decide) (fun c7 => ?_) (fun c7 => ?_)
    · have h := sv_if c7 h
      refine sv_aload_n hC dX0_fear_32 0 rfl rfl ?_
      refine sv_get hC in_X0 0 (sx_at (by decide)) rfl 10 (by decide) q237 rfl (v := .ref (z.1 11)) rfl dX0_fear_33 ?_
      refine sv_aload_n hC dX0_fear_36 0 rfl rfl ?_
      refine sv_get hC in_X0 0 (sx_at (by decide)) rfl 8 (by decide) q235 rfl (v := .ref (z.1 5)) rfl dX0_fear_37 ?_
      refine sv_iload_n hC dX0_fear_40 1 rfl rfl ?_
      refine sv_iconst hC (v := 1) dX0_fear_41 (by decide) ?_
      refine sv_iadd hC dX0_fear_42 ?_
      obtain ⟨p8, ep8, h⟩ := sv_ob h
      refine sv_wVi (nn := 2) hC (met_xdX4_run hC.F z K hz 0 0 (by decide) (by decide) (x1 + 1) σ ep8) (11 + 0) 5 (sx_w (w := 0) (by decide)) rfl rfl (lw_V q779 q780 q781 q57 q782) (by decide +kernel) ⟨by decide, by decide⟩ ⟨rfl, rfl⟩ rfl rfl (Nat.le_of_ble_eq_true rfl) ⟨Nat.le_refl 0, Nat.le_refl 0⟩ dX0_fear_43 ?_
      refine sv_pop hC dX0_fear_46 rfl ?_
      refine sv_aload_n hC dX0_fear_47 0 rfl rfl ?_
      refine sv_get hC in_X0 0 (sx_at (by decide)) rfl 10 (by decide) q237 rfl (v := .ref (z.1 11)) rfl dX0_fear_48 ?_
      refine sv_get hC in_X4 (11 + 0) (sx_w (w := 0) (by decide)) rfl 1 (by decide) q158 rfl (v := .ref (z.1 (14 + 0))) rfl dX0_fear_51 ?_
      refine sv_iload_n hC dX0_fear_54 2 rfl rfl ?_
      obtain ⟨j9, ej9, h⟩ := sv_ob h
      refine sv_aldr hC (14 + 0) 8 (sx_fw (w := 0) (by decide)) rfl rfl (j := j9) (b := z.1 (j9 + (7 * 0 + 1) + 20)) ej9 rfl dX0_fear_55 ?_
      refine sv_iload_n hC dX0_fear_56 3 rfl rfl ?_
      obtain ⟨j10, ej10, h⟩ := sv_ob h
      refine sv_iald hC (j9 + (7 * 0 + 1) + 20) (f := p8.2.2 (j9 + (7 * 0 + 1))) (sx_a (XA_fr (w := 0) (b := j9) (by decide) (sv_ixl ej9))) rfl (j := j10) ej10 dX0_fear_57 ?_
      exact sv_iret hC hQ dX0_fear_58 (by have e := Option.some.inj h; subst e; exact ⟨rfl, rfl⟩)
    · have h := sv_it c7 h
      refine sv_bipush hC (v := (-2)) dX0_fear_29 (by decide) ?_
      exact sv_iret hC hQ dX0_fear_31 (by have e := Option.some.inj h; subst e; exact ⟨rfl, rfl⟩)
set_option maxHeartbeats 2000000 in
theorem wk_xdX0_fear {Γ : sv_G} (z : XZ) (K : XK) (hz : SP (sg_s0 Γ) (sg_dA Γ) z K) (hC : sv_C Γ cX0_fear 4 RX0 (some .int) rm_X0_fear) {r0 : Int32 × MSt} (hQ : sv_RQ Γ (sv_pI r0.1 (SW (sg_dA Γ) z K r0.2)) 0 0) (x1 : Int32) (x2 : Int32) (x3 : Int32) (σ : MSt) (h : xdX0_fear K x1 x2 x3 σ = some r0) : sv_V Γ (SW (sg_dA Γ) z K σ) 0 0 0 [(0, .ref (z.1 0)), (1, .int x1), (2, .int x2), (3, .int x3)] [] := by
  unfold xdX0_fear at h
  refine sv_iload_n hC dX0_fear_0 1 rfl rfl ?_
  refine sv_iconst hC (v := (-1)) dX0_fear_1 (by decide) ?_
  refine sv_icmp_eq hC (tgt := 13) dX0_fear_2 (by decide) (fun c1 => ?_) (fun c1 => ?_)
  · have h := sv_it c1 h
    exact wk_xdX0_fear_13 z K hz hC hQ x1 x2 x3 σ h
  · have h := sv_if c1 h
    refine sv_aload_n hC dX0_fear_5 0 rfl rfl ?_
    refine sv_iload_n hC dX0_fear_6 1 rfl rfl ?_
    obtain ⟨r2, er2, h⟩ := sv_ob h
    refine sv_wVi (nn := 1) hC (met_xdX0_isDay hC.F z K hz σ x1 er2) 0 1 (sx_at (by decide)) rfl rfl (lw_V q775 q777 qs9 q52 q778) (by decide +kernel) ⟨by decide, by decide⟩ ⟨rfl, rfl⟩ rfl rfl (Nat.le_of_ble_eq_true rfl) ⟨Nat.le_refl 0, Nat.le_refl 0⟩ dX0_fear_7 ?_
    refine sv_if_eq hC (tgt := 29) dX0_fear_10 (by decide) (fun c3 => ?_) (fun c3 => ?_)
    · have h := sv_it c3 h
      refine sv_bipush hC (v := (-2)) dX0_fear_29 (by decide) ?_
      exact sv_iret hC hQ dX0_fear_31 (by have e := Option.some.inj h; subst e; exact ⟨rfl, rfl⟩)
    · have h := sv_if c3 h
      exact wk_xdX0_fear_13 z K hz hC hQ x1 x2 x3 σ h
set_option maxHeartbeats 2000000 in
theorem met_xdX0_fear {l : Launch} {s0 : State} {D : va_G} {dA : Nat → ClassId} (hF : sv_F s0 D dA) (z : XZ) (K : XK) (hz : SP s0 dA z K) (x1 : Int32) (x2 : Int32) (x3 : Int32) (σ : MSt) {r0 : Int32 × MSt} (h : xdX0_fear K x1 x2 x3 σ = some r0) : sv_M l s0 D yX0_fear cX0_fear 4 (some .int) rm_X0_fear [.ref (z.1 0), .int x1, .int x2, .int x3] (SW dA z K σ) (sv_pI r0.1 (SW dA z K r0.2)) :=
  sv_met hF (by decide) (Nat.le_of_ble_eq_true rfl) (fun Γ hC hQ hmn e1 e2 e3 e4 => by
    subst e1 e2 e3 e4
    exact wk_xdX0_fear z K hz hC hQ x1 x2 x3 σ h)
set_option maxHeartbeats 2000000 in
theorem wk_xdX0_wagesOf_15b {Γ : sv_G} (z : XZ) (K : XK) (hz : SP (sg_s0 Γ) (sg_dA Γ) z K) (p : Nat) (hp : p < 2) (σ : MSt) (hC : sv_C Γ cX0_wagesOf 6 RX0 (some .int) rm_X0_wagesOf) {r0 : Int32} (hQ : sv_RQ Γ (sv_pI r0 (SW (sg_dA Γ) z K σ)) 0 0) (rk_4 : Int32 → Int32 → Option Int32) (hk_4 : ∀ (x2 : Int32) (x3 : Int32), rk_4 x2 x3 = some r0 → sv_V Γ (SW (sg_dA Γ) z K σ) 0 0 4 [(0, .ref (z.1 0)), (1, .ref (z.1 (5 + p))), (2, .int x2), (3, .int x3)] []) (rk_15 : Int32 → Int32 → Int32 → Option Int32) (hk_15 : ∀ (x2 : Int32) (x3 : Int32) (x4 : Int32), rk_15 x2 x3 x4 = some r0 → sv_V Γ (SW (sg_dA Γ) z K σ) 0 0 15 [(0, .ref (z.1 0)), (1, .ref (z.1 (5 + p))), (2, .int x2), (3, .int x3), (4, .int x4)] []) (x2 : Int32) (x3 : Int32) (x4 : Int32)  (h : xdX0_wagesOf_15b K p σ rk_4 rk_15 x2 x3 x4 = some r0) : sv_V Γ (SW (sg_dA Γ) z K σ) 0 0 15 [(0, .ref (z.1 0)), (1, .ref (z.1 (5 + p))), (2, .int x2), (3, .int x3), (4, .int x4)] [] := by
  unfold xdX0_wagesOf_15b at h
  refine sv_iload hC dX0_wagesOf_15 4 rfl ?_
  refine sv_iconst hC (v := 4) dX0_wagesOf_17 (by decide) ?_
  refine sv_icmp_ge hC (tgt := 79) dX0_wagesOf_18 (by decide) (fun c2 => ?_) (fun c2 => ?_)
  · have h := sv_it c2 h
    refine sv_iinc hC (v := x3 + 1) dX0_wagesOf_79 3 rfl rfl (by decide) (lvq := [(3, .int (x3 + 1)), (0, .ref (z.1 0)), (1, .ref (z.1 (5 + p))), (2, .int x2), (4, .int x4)]) rfl ?_
    refine sv_goto hC (tgt := 4) dX0_wagesOf_82 (by decide) ?_
    refine sv_loc [1, 2, 3, 0] (lvq := [(0, .ref (z.1 0)), (1, .ref (z.1 (5 + p))), (2, .int x2), (3, .int (x3 + 1))]) rfl ?_
    exact hk_4 x2 (x3 + 1) h
  · have h := sv_if c2 h
    refine sv_aload_n hC dX0_wagesOf_21 1 rfl rfl ?_
    refine sv_get hC in_X3 (5 + p) (sx_p (p := p) hp) rfl 0 (by decide) q135 rfl (v := .ref (z.1 (7 + 2 * p))) rfl dX0_wagesOf_22 ?_
    refine sv_iload_n hC dX0_wagesOf_25 3 rfl rfl ?_
    obtain ⟨j3, ej3, h⟩ := sv_ob h
    refine sv_aldr hC (7 + 2 * p) 6 (sx_ps (p := p) hp) rfl rfl (j := j3) (b := z.1 (j3 + (21 + 42 * p) + 20)) ej3 rfl dX0_wagesOf_26 ?_
    refine sv_iload hC dX0_wagesOf_27 4 rfl ?_
    obtain ⟨j4, ej4, h⟩ := sv_ob h
    refine sv_bald hC (j3 + (21 + 42 * p) + 20) (f := σ.2 (j3 + (21 + 42 * p))) (sx_a (XA_ps (p := p) (d := j3) hp (sv_ixl ej3))) rfl (j := j4) ej4 dX0_wagesOf_29 ?_
    refine sv_istore hC dX0_wagesOf_30 (by decide) (lvq := [(5, .int (σ.2 (j3 + (21 + 42 * p)) j4)), (0, .ref (z.1 0)), (1, .ref (z.1 (5 + p))), (2, .int x2), (3, .int x3), (4, .int x4)]) rfl ?_
    refine sv_iload_n hC dX0_wagesOf_32 3 rfl rfl ?_
    refine sv_aload_n hC dX0_wagesOf_33 1 rfl rfl ?_
    refine sv_iload hC dX0_wagesOf_34 5 rfl ?_
    obtain ⟨r5, er5, h⟩ := sv_ob h
    refine sv_wVi (nn := 1) hC (met_xdX0_isField hC.F z K hz σ x4 er5) 0 1 (sx_at (by decide)) rfl rfl (lw_V q736 q738 qs6 q52 q739) (by decide +kernel) ⟨by decide, by decide⟩ ⟨rfl, rfl⟩ rfl rfl (Nat.le_of_ble_eq_true rfl) ⟨Nat.le_refl 0, Nat.le_refl 0⟩ dX0_wagesOf_36 ?_
    refine sv_if_eq hC (tgt := 70) dX0_wagesOf_39 (by decide) (fun c6 => ?_) (fun c6 => ?_)
    · have h := sv_it c6 h
      refine sv_iconst hC (v := 0) dX0_wagesOf_70 (by decide) ?_
      refine sv_iadd hC dX0_wagesOf_71 ?_
      refine sv_istore_n hC dX0_wagesOf_72 rfl (by decide) (lvq := [(2, .int (x2 + 0)), (5, .int (σ.2 (j3 + (21 + 42 * p)) j4)), (0, .ref (z.1 0)), (1, .ref (z.1 (5 + p))), (3, .int x3), (4, .int x4)]) rfl ?_
      refine sv_iinc hC (v := x4 + 1) dX0_wagesOf_73 5 rfl rfl (by decide) (lvq := [(4, .int (x4 + 1)), (2, .int (x2 + 0)), (5, .int (σ.2 (j3 + (21 + 42 * p)) j4)), (0, .ref (z.1 0)), (1, .ref (z.1 (5 + p))), (3, .int x3)]) rfl ?_
      refine sv_goto hC (tgt := 15) dX0_wagesOf_76 (by decide) ?_
      refine sv_loc [3, 4, 1, 5, 0] (lvq := [(0, .ref (z.1 0)), (1, .ref (z.1 (5 + p))), (2, .int (x2 + 0)), (3, .int x3), (4, .int (x4 + 1))]) rfl ?_
      exact hk_15 (x2 + 0) x3 (x4 + 1) h
    · have h := sv_if c6 h
      refine sv_aload_n hC dX0_wagesOf_42 1 rfl rfl ?_
      refine sv_iload hC dX0_wagesOf_43 0 rfl ?_
      obtain ⟨r7, er7, h⟩ := sv_ob h
      refine sv_wVi (nn := 1) hC (met_xdX0_isCoat hC.F z K hz σ (σ.2 (j3 + (21 + 42 * p)) j4) er7) 0 1 (sx_at (by decide)) rfl rfl (lw_V q757 q759 qs8 q52 q760) (by decide +kernel) ⟨by decide, by decide⟩ ⟨rfl, rfl⟩ rfl rfl (Nat.le_of_ble_eq_true rfl) ⟨Nat.le_refl 0, Nat.le_refl 0⟩ dX0_wagesOf_45 ?_
      refine sv_if_eq hC (tgt := 70) dX0_wagesOf_48 (by decide) (fun c8 => ?_) (fun c8 => ?_)
      · have h := sv_it c8 h
        refine sv_iconst hC (v := 0) dX0_wagesOf_70 (by decide) ?_
        refine sv_iadd hC dX0_wagesOf_71 ?_
        refine sv_istore_n hC dX0_wagesOf_72 rfl (by decide) (lvq := [(2, .int (x2 + 0)), (5, .int (σ.2 (j3 + (21 + 42 * p)) j4)), (0, .ref (z.1 0)), (1, .ref (z.1 (5 + p))), (3, .int x3), (4, .int x4)]) rfl ?_
        refine sv_iinc hC (v := x4 + 1) dX0_wagesOf_73 5 rfl rfl (by decide) (lvq := [(4, .int (x4 + 1)), (2, .int (x2 + 0)), (5, .int (σ.2 (j3 + (21 + 42 * p)) j4)), (0, .ref (z.1 0)), (1, .ref (z.1 (5 + p))), (3, .int x3)]) rfl ?_
        refine sv_goto hC (tgt := 15) dX0_wagesOf_76 (by decide) ?_
        refine sv_loc [3, 4, 1, 5, 0] (lvq := [(0, .ref (z.1 0)), (1, .ref (z.1 (5 + p))), (2, .int (x2 + 0)), (3, .int x3), (4, .int (x4 + 1))]) rfl ?_
        exact hk_15 (x2 + 0) x3 (x4 + 1) h
      · have h := sv_if c8 h
        refine sv_aload_n hC dX0_wagesOf_51 2 rfl rfl ?_
        refine sv_get hC in_X3 (5 + p) (sx_p (p := p) hp) rfl 1 (by decide) q138 rfl (v := .ref (z.1 (8 + 2 * p))) rfl dX0_wagesOf_52 ?_
        refine sv_iload_n hC dX0_wagesOf_55 4 rfl rfl ?_
        obtain ⟨j9, ej9, h⟩ := sv_ob h
        refine sv_aldr hC (8 + 2 * p) 7 (sx_pr (p := p) hp) rfl rfl (j := j9) (b := z.1 (j9 + (42 + 42 * p) + 20)) ej9 rfl dX0_wagesOf_56 ?_
        refine sv_iload hC dX0_wagesOf_57 0 rfl ?_
        obtain ⟨j10, ej10, h⟩ := sv_ob h
        refine sv_zald hC (j9 + (42 + 42 * p) + 20) (f := σ.2 (j9 + (42 + 42 * p))) (sx_a (XA_pr (p := p) (d := j9) hp (sv_ixl ej9))) rfl (j := j10) ej10 dX0_wagesOf_59 ?_
        refine sv_if_eq hC (tgt := 70) dX0_wagesOf_60 (by decide) (fun c11 => ?_) (fun c11 => ?_)
        · have h := sv_it c11 h
          refine sv_iconst hC (v := 0) dX0_wagesOf_70 (by decide) ?_
          refine sv_iadd hC dX0_wagesOf_71 ?_
          refine sv_istore_n hC dX0_wagesOf_72 rfl (by decide) (lvq := [(2, .int (x2 + 0)), (5, .int (σ.2 (j3 + (21 + 42 * p)) j4)), (0, .ref (z.1 0)), (1, .ref (z.1 (5 + p))), (3, .int x3), (4, .int x4)]) rfl ?_
          refine sv_iinc hC (v := x4 + 1) dX0_wagesOf_73 5 rfl rfl (by decide) (lvq := [(4, .int (x4 + 1)), (2, .int (x2 + 0)), (5, .int (σ.2 (j3 + (21 + 42 * p)) j4)), (0, .ref (z.1 0)), (1, .ref (z.1 (5 + p))), (3, .int x3)]) rfl ?_
          refine sv_goto hC (tgt := 15) dX0_wagesOf_76 (by decide) ?_
          refine sv_loc [3, 4, 1, 5, 0] (lvq := [(0, .ref (z.1 0)), (1, .ref (z.1 (5 + p))), (2, .int (x2 + 0)), (3, .int x3), (4, .int (x4 + 1))]) rfl ?_
          exact hk_15 (x2 + 0) x3 (x4 + 1) h
        · have h := sv_if c11 h
          refine sv_aload_n hC dX0_wagesOf_63 1 rfl rfl ?_
          refine sv_get hC in_X0 0 (sx_at (by decide)) rfl 5 (by decide) q232 rfl (v := .int (σ.1 5)) rfl dX0_wagesOf_64 ?_
          refine sv_goto hC (tgt := 71) dX0_wagesOf_67 (by decide) ?_
          refine sv_iadd hC dX0_wagesOf_71 ?_
          refine sv_istore_n hC dX0_wagesOf_72 rfl (by decide) (lvq := [(2, .int (x2 + (σ.1 5))), (5, .int (σ.2 (j3 + (21 + 42 * p)) j4)), (0, .ref (z.1 0)), (1, .ref (z.1 (5 + p))), (3, .int x3), (4, .int x4)]) rfl ?_
          refine sv_iinc hC (v := x4 + 1) dX0_wagesOf_73 5 rfl rfl (by decide) (lvq := [(4, .int (x4 + 1)), (2, .int (x2 + (σ.1 5))), (5, .int (σ.2 (j3 + (21 + 42 * p)) j4)), (0, .ref (z.1 0)), (1, .ref (z.1 (5 + p))), (3, .int x3)]) rfl ?_
          refine sv_goto hC (tgt := 15) dX0_wagesOf_76 (by decide) ?_
          refine sv_loc [3, 4, 1, 5, 0] (lvq := [(0, .ref (z.1 0)), (1, .ref (z.1 (5 + p))), (2, .int (x2 + (σ.1 5))), (3, .int x3), (4, .int (x4 + 1))]) rfl ?_
          exact hk_15 (x2 + (σ.1 5)) x3 (x4 + 1) h
set_option maxHeartbeats 2000000 in
theorem wk_xdX0_wagesOf_15 {Γ : sv_G} (z : XZ) (K : XK) (hz : SP (sg_s0 Γ) (sg_dA Γ) z K) (p : Nat) (hp : p < 2) (σ : MSt) (hC : sv_C Γ cX0_wagesOf 6 RX0 (some .int) rm_X0_wagesOf) {r0 : Int32} (hQ : sv_RQ Γ (sv_pI r0 (SW (sg_dA Γ) z K σ)) 0 0) (rk_4 : Int32 → Int32 → Option Int32) (hk_4 : ∀ (x2 : Int32) (x3 : Int32), rk_4 x2 x3 = some r0 → sv_V Γ (SW (sg_dA Γ) z K σ) 0 0 4 [(0, .ref (z.1 0)), (1, .ref (z.1 (5 + p))), (2, .int x2), (3, .int x3)] []) : ∀ (n : Nat) (x2 : Int32) (x3 : Int32) (x4 : Int32)  (h : xdX0_wagesOf_15 K p σ rk_4 n x2 x3 x4 = some r0), sv_V Γ (SW (sg_dA Γ) z K σ) 0 0 15 [(0, .ref (z.1 0)), (1, .ref (z.1 (5 + p))), (2, .int x2), (3, .int x3), (4, .int x4)] [] := by
  intro n
  induction n with
  | zero => intro x2 x3 x4 h; cases h
  | succ n ih => intro x2 x3 x4 h; exact wk_xdX0_wagesOf_15b z K hz p hp σ hC hQ rk_4 hk_4 (xdX0_wagesOf_15 K p σ rk_4 n) ih x2 x3 x4 h
set_option maxHeartbeats 2000000 in
theorem wk_xdX0_wagesOf_4b {Γ : sv_G} (z : XZ) (K : XK) (hz : SP (sg_s0 Γ) (sg_dA Γ) z K) (p : Nat) (hp : p < 2) (σ : MSt) (hC : sv_C Γ cX0_wagesOf 6 RX0 (some .int) rm_X0_wagesOf) {r0 : Int32} (hQ : sv_RQ Γ (sv_pI r0 (SW (sg_dA Γ) z K σ)) 0 0)  (rk_4 : Int32 → Int32 → Option Int32) (hk_4 : ∀ (x2 : Int32) (x3 : Int32), rk_4 x2 x3 = some r0 → sv_V Γ (SW (sg_dA Γ) z K σ) 0 0 4 [(0, .ref (z.1 0)), (1, .ref (z.1 (5 + p))), (2, .int x2), (3, .int x3)] []) (x2 : Int32) (x3 : Int32)  (h : xdX0_wagesOf_4b K p σ rk_4 x2 x3 = some r0) : sv_V Γ (SW (sg_dA Γ) z K σ) 0 0 4 [(0, .ref (z.1 0)), (1, .ref (z.1 (5 + p))), (2, .int x2), (3, .int x3)] [] := by
  unfold xdX0_wagesOf_4b at h
  refine sv_iload_n hC dX0_wagesOf_4 3 rfl rfl ?_
  refine sv_aload_n hC dX0_wagesOf_5 0 rfl rfl ?_
  refine sv_get hC in_X0 0 (sx_at (by decide)) rfl 7 (by decide) q234 rfl (v := .int (σ.1 7)) rfl dX0_wagesOf_6 ?_
  refine sv_icmp_ge hC (tgt := 85) dX0_wagesOf_9 (by decide) (fun c1 => ?_) (fun c1 => ?_)
  · have h := sv_it c1 h
    refine sv_iload_n hC dX0_wagesOf_85 2 rfl rfl ?_
    exact sv_iret hC hQ dX0_wagesOf_86 (by have e := Option.some.inj h; subst e; exact ⟨rfl, rfl⟩)
  · have h := sv_if c1 h
    refine sv_iconst hC (v := 0) dX0_wagesOf_12 (by decide) ?_
    refine sv_istore hC dX0_wagesOf_13 (by decide) (lvq := [(4, .int 0), (0, .ref (z.1 0)), (1, .ref (z.1 (5 + p))), (2, .int x2), (3, .int x3)]) rfl ?_
    refine sv_loc [1, 2, 3, 4, 0] (lvq := [(0, .ref (z.1 0)), (1, .ref (z.1 (5 + p))), (2, .int x2), (3, .int x3), (4, .int 0)]) rfl ?_
    exact wk_xdX0_wagesOf_15 z K hz p hp σ hC hQ rk_4 hk_4 sv_FU x2 x3 0 h
set_option maxHeartbeats 2000000 in
theorem wk_xdX0_wagesOf_4 {Γ : sv_G} (z : XZ) (K : XK) (hz : SP (sg_s0 Γ) (sg_dA Γ) z K) (p : Nat) (hp : p < 2) (σ : MSt) (hC : sv_C Γ cX0_wagesOf 6 RX0 (some .int) rm_X0_wagesOf) {r0 : Int32} (hQ : sv_RQ Γ (sv_pI r0 (SW (sg_dA Γ) z K σ)) 0 0)  : ∀ (n : Nat) (x2 : Int32) (x3 : Int32)  (h : xdX0_wagesOf_4 K p σ n x2 x3 = some r0), sv_V Γ (SW (sg_dA Γ) z K σ) 0 0 4 [(0, .ref (z.1 0)), (1, .ref (z.1 (5 + p))), (2, .int x2), (3, .int x3)] [] := by
  intro n
  induction n with
  | zero => intro x2 x3 h; cases h
  | succ n ih => intro x2 x3 h; exact wk_xdX0_wagesOf_4b z K hz p hp σ hC hQ (xdX0_wagesOf_4 K p σ n) ih x2 x3 h
set_option maxHeartbeats 2000000 in
theorem wk_xdX0_wagesOf {Γ : sv_G} (z : XZ) (K : XK) (hz : SP (sg_s0 Γ) (sg_dA Γ) z K) (p : Nat) (hp : p < 2) (σ : MSt) (hC : sv_C Γ cX0_wagesOf 6 RX0 (some .int) rm_X0_wagesOf) {r0 : Int32} (hQ : sv_RQ Γ (sv_pI r0 (SW (sg_dA Γ) z K σ)) 0 0)  (h : xdX0_wagesOf K p σ  = some r0) : sv_V Γ (SW (sg_dA Γ) z K σ) 0 0 0 [(0, .ref (z.1 0)), (1, .ref (z.1 (5 + p)))] [] := by
  unfold xdX0_wagesOf at h
  refine sv_iconst hC (v := 0) dX0_wagesOf_0 (by decide) ?_
  refine sv_istore_n hC dX0_wagesOf_1 rfl (by decide) (lvq := [(2, .int 0), (0, .ref (z.1 0)), (1, .ref (z.1 (5 + p)))]) rfl ?_
  refine sv_iconst hC (v := 0) dX0_wagesOf_2 (by decide) ?_
  refine sv_istore_n hC dX0_wagesOf_3 rfl (by decide) (lvq := [(3, .int 0), (2, .int 0), (0, .ref (z.1 0)), (1, .ref (z.1 (5 + p)))]) rfl ?_
  refine sv_loc [2, 3, 1, 0] (lvq := [(0, .ref (z.1 0)), (1, .ref (z.1 (5 + p))), (2, .int 0), (3, .int 0)]) rfl ?_
  exact wk_xdX0_wagesOf_4 z K hz p hp σ hC hQ sv_FU 0 0 h
set_option maxHeartbeats 2000000 in
theorem met_xdX0_wagesOf {l : Launch} {s0 : State} {D : va_G} {dA : Nat → ClassId} (hF : sv_F s0 D dA) (z : XZ) (K : XK) (hz : SP s0 dA z K) (p : Nat) (hp : p < 2) (σ : MSt)  {r0 : Int32} (h : xdX0_wagesOf K p σ  = some r0) : sv_M l s0 D yX0_wagesOf cX0_wagesOf 6 (some .int) rm_X0_wagesOf [.ref (z.1 0), .ref (z.1 (5 + p))] (SW dA z K σ) (sv_pI r0 (SW dA z K σ)) :=
  sv_met hF (by decide) (Nat.le_of_ble_eq_true rfl) (fun Γ hC hQ hmn e1 e2 e3 e4 => by
    subst e1 e2 e3 e4
    exact wk_xdX0_wagesOf z K hz p hp σ hC hQ  h)
set_option maxHeartbeats 2000000 in
theorem wk_xdX0_costOf {Γ : sv_G} (z : XZ) (K : XK) (hz : SP (sg_s0 Γ) (sg_dA Γ) z K) (p : Nat) (hp : p < 2) (hC : sv_C Γ cX0_costOf 2 RX0 (some .int) rm_X0_costOf) {r0 : Int32 × MSt} (hQ : sv_RQ Γ (sv_pI r0.1 (SW (sg_dA Γ) z K r0.2)) 0 0) (σ : MSt) (h : xdX0_costOf K p σ = some r0) : sv_V Γ (SW (sg_dA Γ) z K σ) 0 0 0 [(0, .ref (z.1 0)), (1, .ref (z.1 (5 + p)))] [] := by
  unfold xdX0_costOf at h
  refine sv_aload_n hC dX0_costOf_0 0 rfl rfl ?_
  refine sv_get hC in_X0 0 (sx_at (by decide)) rfl 10 (by decide) q237 rfl (v := .ref (z.1 11)) rfl dX0_costOf_1 ?_
  refine sv_aload_n hC dX0_costOf_4 1 rfl rfl ?_
  refine sv_aload_n hC dX0_costOf_5 0 rfl rfl ?_
  refine sv_get hC in_X0 0 (sx_at (by decide)) rfl 7 (by decide) q234 rfl (v := .int (σ.1 7)) rfl dX0_costOf_6 ?_
  obtain ⟨p1, ep1, h⟩ := sv_ob h
  refine sv_wVi (nn := 2) hC (met_xdX4_run hC.F z K hz 0 p (by decide) hp (σ.1 7) σ ep1) (11 + 0) 5 (sx_w (w := 0) (by decide)) rfl rfl (lw_V q779 q780 q781 q57 q782) (by decide +kernel) ⟨by decide, by decide⟩ ⟨rfl, rfl⟩ rfl rfl (Nat.le_of_ble_eq_true rfl) ⟨Nat.le_refl 0, Nat.le_refl 0⟩ dX0_costOf_9 ?_
  refine sv_aload_n hC dX0_costOf_12 0 rfl rfl ?_
  refine sv_get hC in_X0 0 (sx_at (by decide)) rfl 6 (by decide) q233 rfl (v := .int (p1.2.1 6)) rfl dX0_costOf_13 ?_
  refine sv_imul hC dX0_costOf_16 ?_
  refine sv_aload_n hC dX0_costOf_17 0 rfl rfl ?_
  refine sv_aload_n hC dX0_costOf_18 1 rfl rfl ?_
  obtain ⟨r2, er2, h⟩ := sv_ob h
  refine sv_wVi (nn := 1) hC (met_xdX0_wagesOf hC.F z K hz p hp p1.2 er2) 0 1 (sx_at (by decide)) rfl rfl (lw_V q845 q847 qs14 q52 q848) (by decide +kernel) ⟨by decide, by decide⟩ ⟨rfl, rfl⟩ rfl rfl (Nat.le_of_ble_eq_true rfl) ⟨Nat.le_refl 0, Nat.le_refl 0⟩ dX0_costOf_19 ?_
  refine sv_iadd hC dX0_costOf_22 ?_
  exact sv_iret hC hQ dX0_costOf_23 (by have e := Option.some.inj h; subst e; exact ⟨rfl, rfl⟩)
set_option maxHeartbeats 2000000 in
theorem met_xdX0_costOf {l : Launch} {s0 : State} {D : va_G} {dA : Nat → ClassId} (hF : sv_F s0 D dA) (z : XZ) (K : XK) (hz : SP s0 dA z K) (p : Nat) (hp : p < 2) (σ : MSt) {r0 : Int32 × MSt} (h : xdX0_costOf K p σ = some r0) : sv_M l s0 D yX0_costOf cX0_costOf 2 (some .int) rm_X0_costOf [.ref (z.1 0), .ref (z.1 (5 + p))] (SW dA z K σ) (sv_pI r0.1 (SW dA z K r0.2)) :=
  sv_met hF (by decide) (Nat.le_of_ble_eq_true rfl) (fun Γ hC hQ hmn e1 e2 e3 e4 => by
    subst e1 e2 e3 e4
    exact wk_xdX0_costOf z K hz p hp hC hQ σ h)
set_option maxHeartbeats 2000000 in
theorem wk_xdX0_cost {Γ : sv_G} (z : XZ) (K : XK) (hz : SP (sg_s0 Γ) (sg_dA Γ) z K) (hC : sv_C Γ cX0_cost 2 RX0 (some .int) rm_X0_cost) {r0 : Int32 × MSt} (hQ : sv_RQ Γ (sv_pI r0.1 (SW (sg_dA Γ) z K r0.2)) 0 0) (x1 : Int32) (σ : MSt) (h : xdX0_cost K x1 σ = some r0) : sv_V Γ (SW (sg_dA Γ) z K σ) 0 0 0 [(0, .ref (z.1 0)), (1, .int x1)] [] := by
  unfold xdX0_cost at h
  refine sv_iload_n hC dX0_cost_0 1 rfl rfl ?_
  refine sv_if_ne hC (tgt := 15) dX0_cost_1 (by decide) (fun c1 => ?_) (fun c1 => ?_)
  · have h := sv_if c1 h
    refine sv_iload_n hC dX0_cost_15 1 rfl rfl ?_
    refine sv_iconst hC (v := 1) dX0_cost_16 (by decide) ?_
    refine sv_icmp_ne hC (tgt := 38) dX0_cost_17 (by decide) (fun c2 => ?_) (fun c2 => ?_)
    · have h := sv_if c2 h
      refine sv_iload_n hC dX0_cost_38 1 rfl rfl ?_
      refine sv_iconst hC (v := 2) dX0_cost_39 (by decide) ?_
      refine sv_icmp_ne hC (tgt := 54) dX0_cost_40 (by decide) (fun c3 => ?_) (fun c3 => ?_)
      · have h := sv_if c3 h
        refine sv_bipush hC (v := (-3)) dX0_cost_54 (by decide) ?_
        exact sv_iret hC hQ dX0_cost_56 (by have e := Option.some.inj h; subst e; exact ⟨rfl, rfl⟩)
      · have h := sv_it c3 h
        refine sv_aload_n hC dX0_cost_43 0 rfl rfl ?_
        refine sv_aload_n hC dX0_cost_44 0 rfl rfl ?_
        refine sv_get hC in_X0 0 (sx_at (by decide)) rfl 8 (by decide) q235 rfl (v := .ref (z.1 5)) rfl dX0_cost_45 ?_
        obtain ⟨r4, er4, h⟩ := sv_ob h
        refine sv_wVi (nn := 1) hC (met_xdX0_wagesOf hC.F z K hz 0 (by decide) σ er4) 0 1 (sx_at (by decide)) rfl rfl (lw_V q845 q847 qs14 q52 q848) (by decide +kernel) ⟨by decide, by decide⟩ ⟨rfl, rfl⟩ rfl rfl (Nat.le_of_ble_eq_true rfl) ⟨Nat.le_refl 0, Nat.le_refl 0⟩ dX0_cost_48 ?_
        refine sv_goto hC (tgt := 56) dX0_cost_51 (by decide) ?_
        exact sv_iret hC hQ dX0_cost_56 (by have e := Option.some.inj h; subst e; exact ⟨rfl, rfl⟩)
    · have h := sv_it c2 h
      refine sv_aload_n hC dX0_cost_20 0 rfl rfl ?_
      refine sv_get hC in_X0 0 (sx_at (by decide)) rfl 10 (by decide) q237 rfl (v := .ref (z.1 11)) rfl dX0_cost_21 ?_
      refine sv_aload_n hC dX0_cost_24 0 rfl rfl ?_
      refine sv_get hC in_X0 0 (sx_at (by decide)) rfl 8 (by decide) q235 rfl (v := .ref (z.1 5)) rfl dX0_cost_25 ?_
      refine sv_aload_n hC dX0_cost_28 0 rfl rfl ?_
      refine sv_get hC in_X0 0 (sx_at (by decide)) rfl 7 (by decide) q234 rfl (v := .int (σ.1 7)) rfl dX0_cost_29 ?_
      obtain ⟨p5, ep5, h⟩ := sv_ob h
      refine sv_wVi (nn := 2) hC (met_xdX4_run hC.F z K hz 0 0 (by decide) (by decide) (σ.1 7) σ ep5) (11 + 0) 5 (sx_w (w := 0) (by decide)) rfl rfl (lw_V q779 q780 q781 q57 q782) (by decide +kernel) ⟨by decide, by decide⟩ ⟨rfl, rfl⟩ rfl rfl (Nat.le_of_ble_eq_true rfl) ⟨Nat.le_refl 0, Nat.le_refl 0⟩ dX0_cost_32 ?_
      refine sv_goto hC (tgt := 56) dX0_cost_35 (by decide) ?_
      exact sv_iret hC hQ dX0_cost_56 (by have e := Option.some.inj h; subst e; exact ⟨rfl, rfl⟩)
  · have h := sv_it c1 h
    refine sv_aload_n hC dX0_cost_4 0 rfl rfl ?_
    refine sv_aload_n hC dX0_cost_5 0 rfl rfl ?_
    refine sv_get hC in_X0 0 (sx_at (by decide)) rfl 8 (by decide) q235 rfl (v := .ref (z.1 5)) rfl dX0_cost_6 ?_
    obtain ⟨p6, ep6, h⟩ := sv_ob h
    refine sv_wVi (nn := 1) hC (met_xdX0_costOf hC.F z K hz 0 (by decide) σ ep6) 0 1 (sx_at (by decide)) rfl rfl (lw_V q841 q843 qs13 q52 q844) (by decide +kernel) ⟨by decide, by decide⟩ ⟨rfl, rfl⟩ rfl rfl (Nat.le_of_ble_eq_true rfl) ⟨Nat.le_refl 0, Nat.le_refl 0⟩ dX0_cost_9 ?_
    refine sv_goto hC (tgt := 56) dX0_cost_12 (by decide) ?_
    exact sv_iret hC hQ dX0_cost_56 (by have e := Option.some.inj h; subst e; exact ⟨rfl, rfl⟩)
set_option maxHeartbeats 2000000 in
theorem met_xdX0_cost {l : Launch} {s0 : State} {D : va_G} {dA : Nat → ClassId} (hF : sv_F s0 D dA) (z : XZ) (K : XK) (hz : SP s0 dA z K) (x1 : Int32) (σ : MSt) {r0 : Int32 × MSt} (h : xdX0_cost K x1 σ = some r0) : sv_M l s0 D yX0_cost cX0_cost 2 (some .int) rm_X0_cost [.ref (z.1 0), .int x1] (SW dA z K σ) (sv_pI r0.1 (SW dA z K r0.2)) :=
  sv_met hF (by decide) (Nat.le_of_ble_eq_true rfl) (fun Γ hC hQ hmn e1 e2 e3 e4 => by
    subst e1 e2 e3 e4
    exact wk_xdX0_cost z K hz hC hQ x1 σ h)
set_option maxHeartbeats 2000000 in
theorem wk_jd_J0_fill_5b {Γ : sv_G} (a0 : Nat) (n0 : Nat) (hC : sv_C Γ cJ0_fill 4 RJ0 none rm_J0_fill) {r0 : Nat → Int32} (hQ : sv_RQ Γ (sv_pV [(a0, .inl ((sg_dA Γ) 1, n0, .inl r0))]) 0 0)  (rk_5 : Int32 → Int32 → Int32 → (Nat → Int32) → Option (Nat → Int32)) (hk_5 : ∀ (x1 : Int32) (x2 : Int32) (x3 : Int32) (σ : Nat → Int32), rk_5 x1 x2 x3 σ = some r0 → sv_V Γ ([(a0, .inl ((sg_dA Γ) 1, n0, .inl σ))]) 0 0 5 [(0, .ref a0), (1, .int x1), (2, .int x2), (3, .int x3)] []) (x1 : Int32) (x2 : Int32) (x3 : Int32) (σ : Nat → Int32)  (h : jd_J0_fill_5b n0 rk_5 x1 x2 x3 σ = some r0) : sv_V Γ ([(a0, .inl ((sg_dA Γ) 1, n0, .inl σ))]) 0 0 5 [(0, .ref a0), (1, .int x1), (2, .int x2), (3, .int x3)] [] := by
  unfold jd_J0_fill_5b at h
  refine sv_iload_n hC dJ0_fill_5 2 rfl rfl ?_
  refine sv_iload_n hC dJ0_fill_6 3 rfl rfl ?_
  refine sv_icmp_ge hC (tgt := 20) dJ0_fill_7 (by decide) (fun c1 => ?_) (fun c1 => ?_)
  · have h := sv_it c1 h
    exact sv_vret hC hQ dJ0_fill_20 (by have e := Option.some.inj h; subst e; exact ⟨rfl, rfl⟩)
  · have h := sv_if c1 h
    refine sv_aload_n hC dJ0_fill_10 0 rfl rfl ?_
    refine sv_iload_n hC dJ0_fill_11 2 rfl rfl ?_
    refine sv_iload_n hC dJ0_fill_12 1 rfl rfl ?_
    obtain ⟨j2, ej2, h⟩ := sv_ob h
    refine sv_bast hC 0 (f := σ) rfl rfl (j := j2) ej2 (Xq := [(a0, .inl ((sg_dA Γ) 1, n0, .inl (upd σ j2 (vp_nar .byte x1))))]) rfl dJ0_fill_13 ?_
    refine sv_iinc hC (v := x2 + 1) dJ0_fill_14 2 rfl rfl (by decide) (lvq := [(2, .int (x2 + 1)), (0, .ref a0), (1, .int x1), (3, .int x3)]) rfl ?_
    refine sv_goto hC (tgt := 5) dJ0_fill_17 (by decide) ?_
    refine sv_loc [1, 2, 0, 3] (lvq := [(0, .ref a0), (1, .int x1), (2, .int (x2 + 1)), (3, .int x3)]) rfl ?_
    exact hk_5 x1 (x2 + 1) x3 (upd σ j2 (vp_nar .byte x1)) h
set_option maxHeartbeats 2000000 in
theorem wk_jd_J0_fill_5 {Γ : sv_G} (a0 : Nat) (n0 : Nat) (hC : sv_C Γ cJ0_fill 4 RJ0 none rm_J0_fill) {r0 : Nat → Int32} (hQ : sv_RQ Γ (sv_pV [(a0, .inl ((sg_dA Γ) 1, n0, .inl r0))]) 0 0)  : ∀ (n : Nat) (x1 : Int32) (x2 : Int32) (x3 : Int32) (σ : Nat → Int32)  (h : jd_J0_fill_5 n0 n x1 x2 x3 σ = some r0), sv_V Γ ([(a0, .inl ((sg_dA Γ) 1, n0, .inl σ))]) 0 0 5 [(0, .ref a0), (1, .int x1), (2, .int x2), (3, .int x3)] [] := by
  intro n
  induction n with
  | zero => intro x1 x2 x3 σ h; cases h
  | succ n ih => intro x1 x2 x3 σ h; exact wk_jd_J0_fill_5b a0 n0 hC hQ (jd_J0_fill_5 n0 n) ih x1 x2 x3 σ h
set_option maxHeartbeats 2000000 in
theorem wk_jd_J0_fill {Γ : sv_G} (a0 : Nat) (n0 : Nat) (hC : sv_C Γ cJ0_fill 4 RJ0 none rm_J0_fill) {r0 : Nat → Int32} (hQ : sv_RQ Γ (sv_pV [(a0, .inl ((sg_dA Γ) 1, n0, .inl r0))]) 0 0) (x1 : Int32) (σ : Nat → Int32) (h : jd_J0_fill n0 x1 σ = some r0) : sv_V Γ ([(a0, .inl ((sg_dA Γ) 1, n0, .inl σ))]) 0 0 0 [(0, .ref a0), (1, .int x1)] [] := by
  unfold jd_J0_fill at h
  refine sv_iconst hC (v := 0) dJ0_fill_0 (by decide) ?_
  refine sv_istore_n hC dJ0_fill_1 rfl (by decide) (lvq := [(2, .int 0), (0, .ref a0), (1, .int x1)]) rfl ?_
  refine sv_aload_n hC dJ0_fill_2 1 rfl rfl ?_
  refine sv_alen hC 0 1 rfl rfl (v := Int32.ofNat n0) rfl dJ0_fill_3 ?_
  refine sv_istore_n hC dJ0_fill_4 rfl (by decide) (lvq := [(3, .int (Int32.ofNat n0)), (2, .int 0), (0, .ref a0), (1, .int x1)]) rfl ?_
  refine sv_loc [2, 3, 1, 0] (lvq := [(0, .ref a0), (1, .int x1), (2, .int 0), (3, .int (Int32.ofNat n0))]) rfl ?_
  exact wk_jd_J0_fill_5 a0 n0 hC hQ sv_FU x1 0 (Int32.ofNat n0) σ h
set_option maxHeartbeats 2000000 in
theorem met_jd_J0_fill {l : Launch} {s0 : State} {D : va_G} {dA : Nat → ClassId} (hF : sv_F s0 D dA) (a0 : Nat) (n0 : Nat) (x1 : Int32) (σ : Nat → Int32) {r0 : Nat → Int32} (h : jd_J0_fill n0 x1 σ = some r0) : sv_M l s0 D yJ0_fill cJ0_fill 4 none rm_J0_fill [.ref a0, .int x1] ([(a0, .inl (dA 1, n0, .inl σ))]) (sv_pV [(a0, .inl (dA 1, n0, .inl r0))]) :=
  sv_met hF (by decide) (Nat.le_of_ble_eq_true rfl) (fun Γ hC hQ hmn e1 e2 e3 e4 => by
    subst e1 e2 e3 e4
    exact wk_jd_J0_fill a0 n0 hC hQ x1 σ h)
set_option maxHeartbeats 2000000 in
theorem wk_xdX5_first {Γ : sv_G} (z : XZ) (K : XK) (hz : SP (sg_s0 Γ) (sg_dA Γ) z K) (q : Nat) (hq : q < 2) (hC : sv_C Γ cX5_first 1 RX5 none rm_X5_first) {r0 : MSt} (hQ : sv_RQ Γ (sv_pV (SW (sg_dA Γ) z K r0)) 0 0) (σ : MSt) (h : xdX5_first K q σ = some r0) : sv_V Γ (SW (sg_dA Γ) z K σ) 0 0 0 [(0, .ref (z.1 (17 + q)))] [] := by
  unfold xdX5_first at h
  refine sv_aload_n hC dX5_first_0 0 rfl rfl ?_
  refine sv_get hC in_X5 (17 + q) (sx_q (q := q) hq) rfl 0 (by decide) q188 rfl (v := .ref (z.1 (106 + q + 20))) rfl dX5_first_1 ?_
  refine sv_iconst hC (v := (-1)) dX5_first_4 (by decide) ?_
  obtain ⟨f1, ef1, h⟩ := sv_ob h
  refine sv_cS (nn := 2) (c' := (z.1 (106 + q + 20), .inl (sg_dA Γ 1, 4, .inl f1))) hC (106 + q + 20) (sx_a (XA_st (q := q) hq)) rfl (met_jd_J0_fill hC.F (z.1 (106 + q + 20)) 4 (-1) (σ.2 (106 + q)) ef1) (lw_S q862 q132 q56 q133) (X' := SW (sg_dA Γ) z K (ms_w σ (106 + q) f1)) (sx_aw (XA_st (q := q) hq) _) (by decide +kernel) ⟨by decide, by decide⟩ ⟨rfl, rfl⟩ rfl rfl (Nat.le_of_ble_eq_true rfl) ⟨Nat.le_refl 0, Nat.le_refl 0⟩ dX5_first_5 ?_
  exact sv_vret hC hQ dX5_first_8 (by have e := Option.some.inj h; subst e; exact ⟨rfl, rfl⟩)
set_option maxHeartbeats 2000000 in
theorem met_xdX5_first {l : Launch} {s0 : State} {D : va_G} {dA : Nat → ClassId} (hF : sv_F s0 D dA) (z : XZ) (K : XK) (hz : SP s0 dA z K) (q : Nat) (hq : q < 2) (σ : MSt) {r0 : MSt} (h : xdX5_first K q σ = some r0) : sv_M l s0 D yX5_first cX5_first 1 none rm_X5_first [.ref (z.1 (17 + q))] (SW dA z K σ) (sv_pV (SW dA z K r0)) :=
  sv_met hF (by decide) (Nat.le_of_ble_eq_true rfl) (fun Γ hC hQ hmn e1 e2 e3 e4 => by
    subst e1 e2 e3 e4
    exact wk_xdX5_first z K hz q hq hC hQ σ h)
set_option maxHeartbeats 2000000 in
theorem wk_xdX4_copy_32b {Γ : sv_G} (z : XZ) (K : XK) (hz : SP (sg_s0 Γ) (sg_dA Γ) z K) (w : Nat) (o : Nat) (hw : w < 3) (ho : o < 3) (hC : sv_C Γ cX4_copy 3 RX4 none rm_X4_copy) {r0 : MSt} (hQ : sv_RQ Γ (sv_pV (SW (sg_dA Γ) z K r0)) 0 0)  (rk_32 : Int32 → MSt → Option MSt) (hk_32 : ∀ (x2 : Int32) (σ : MSt), rk_32 x2 σ = some r0 → sv_V Γ (SW (sg_dA Γ) z K σ) 0 0 32 [(0, .ref (z.1 (11 + w))), (1, .ref (z.1 (11 + o))), (2, .int x2)] []) (x2 : Int32) (σ : MSt)  (h : xdX4_copy_32b K w o rk_32 x2 σ = some r0) : sv_V Γ (SW (sg_dA Γ) z K σ) 0 0 32 [(0, .ref (z.1 (11 + w))), (1, .ref (z.1 (11 + o))), (2, .int x2)] [] := by
  unfold xdX4_copy_32b at h
  refine sv_iload_n hC dX4_copy_32 2 rfl rfl ?_
  refine sv_iconst hC (v := 4) dX4_copy_33 (by decide) ?_
  refine sv_icmp_ge hC (tgt := 61) dX4_copy_34 (by decide) (fun c1 => ?_) (fun c1 => ?_)
  · have h := sv_it c1 h
    exact sv_vret hC hQ dX4_copy_61 (by have e := Option.some.inj h; subst e; exact ⟨rfl, rfl⟩)
  · have h := sv_if c1 h
    refine sv_aload_n hC dX4_copy_37 1 rfl rfl ?_
    refine sv_get hC in_X4 (11 + o) (sx_w (w := o) ho) rfl 1 (by decide) q157 rfl (v := .ref (z.1 (14 + o))) rfl dX4_copy_38 ?_
    refine sv_iload_n hC dX4_copy_41 2 rfl rfl ?_
    obtain ⟨j2, ej2, h⟩ := sv_ob h
    refine sv_aldr hC (14 + o) 8 (sx_fw (w := o) ho) rfl rfl (j := j2) (b := z.1 (j2 + (7 * o + 1) + 20)) ej2 rfl dX4_copy_42 ?_
    refine sv_iconst hC (v := 0) dX4_copy_43 (by decide) ?_
    refine sv_aload_n hC dX4_copy_44 0 rfl rfl ?_
    refine sv_get hC in_X4 (11 + w) (sx_w (w := w) hw) rfl 1 (by decide) q157 rfl (v := .ref (z.1 (14 + w))) rfl dX4_copy_45 ?_
    refine sv_iload_n hC dX4_copy_48 2 rfl rfl ?_
    obtain ⟨j3, ej3, h⟩ := sv_ob h
    refine sv_aldr hC (14 + w) 8 (sx_fw (w := w) hw) rfl rfl (j := j3) (b := z.1 (j3 + (7 * w + 1) + 20)) ej3 rfl dX4_copy_49 ?_
    refine sv_iconst hC (v := 0) dX4_copy_50 (by decide) ?_
    refine sv_iconst hC (v := 4) dX4_copy_51 (by decide) ?_
    refine sv_copy hC q867 q426 q425 q70 (j2 + (7 * o + 1) + 20) (j3 + (7 * w + 1) + 20) 0 (sx_a (XA_fr (w := o) (b := j2) ho (sv_ixl ej2))) (sx_a (XA_fr (w := w) (b := j3) hw (sv_ixl ej3))) rfl rfl (by decide) (by decide) (by decide) (by decide) (by decide) (fun i hi => rfl) (X' := SW (sg_dA Γ) z K (ms_w σ (j3 + (7 * w + 1)) (va_cpy (σ.2 (j2 + (7 * o + 1))) (σ.2 (j3 + (7 * w + 1))) (0 : Int32).toNatClampNeg (0 : Int32).toNatClampNeg (4 : Int32).toNatClampNeg))) (sx_aw (XA_fr (w := w) (b := j3) hw (sv_ixl ej3)) _) (by decide) (Nat.le_of_ble_eq_true rfl) dX4_copy_52 ?_
    refine sv_iinc hC (v := x2 + 1) dX4_copy_55 2 rfl rfl (by decide) (lvq := [(2, .int (x2 + 1)), (0, .ref (z.1 (11 + w))), (1, .ref (z.1 (11 + o)))]) rfl ?_
    refine sv_goto hC (tgt := 32) dX4_copy_58 (by decide) ?_
    refine sv_loc [1, 2, 0] (lvq := [(0, .ref (z.1 (11 + w))), (1, .ref (z.1 (11 + o))), (2, .int (x2 + 1))]) rfl ?_
    exact hk_32 (x2 + 1) (ms_w σ (j3 + (7 * w + 1)) (va_cpy (σ.2 (j2 + (7 * o + 1))) (σ.2 (j3 + (7 * w + 1))) (0 : Int32).toNatClampNeg (0 : Int32).toNatClampNeg (4 : Int32).toNatClampNeg)) h
set_option maxHeartbeats 2000000 in
theorem wk_xdX4_copy_32 {Γ : sv_G} (z : XZ) (K : XK) (hz : SP (sg_s0 Γ) (sg_dA Γ) z K) (w : Nat) (o : Nat) (hw : w < 3) (ho : o < 3) (hC : sv_C Γ cX4_copy 3 RX4 none rm_X4_copy) {r0 : MSt} (hQ : sv_RQ Γ (sv_pV (SW (sg_dA Γ) z K r0)) 0 0)  : ∀ (n : Nat) (x2 : Int32) (σ : MSt)  (h : xdX4_copy_32 K w o n x2 σ = some r0), sv_V Γ (SW (sg_dA Γ) z K σ) 0 0 32 [(0, .ref (z.1 (11 + w))), (1, .ref (z.1 (11 + o))), (2, .int x2)] [] := by
  intro n
  induction n with
  | zero => intro x2 σ h; cases h
  | succ n ih => intro x2 σ h; exact wk_xdX4_copy_32b z K hz w o hw ho hC hQ (xdX4_copy_32 K w o n) ih x2 σ h
set_option maxHeartbeats 2000000 in
theorem wk_xdX4_copy {Γ : sv_G} (z : XZ) (K : XK) (hz : SP (sg_s0 Γ) (sg_dA Γ) z K) (w : Nat) (o : Nat) (hw : w < 3) (ho : o < 3) (hC : sv_C Γ cX4_copy 3 RX4 none rm_X4_copy) {r0 : MSt} (hQ : sv_RQ Γ (sv_pV (SW (sg_dA Γ) z K r0)) 0 0) (σ : MSt) (h : xdX4_copy K w o σ = some r0) : sv_V Γ (SW (sg_dA Γ) z K σ) 0 0 0 [(0, .ref (z.1 (11 + w))), (1, .ref (z.1 (11 + o)))] [] := by
  unfold xdX4_copy at h
  refine sv_aload_n hC dX4_copy_0 0 rfl rfl ?_
  refine sv_aload_n hC dX4_copy_1 1 rfl rfl ?_
  refine sv_get hC in_X4 (11 + o) (sx_w (w := o) ho) rfl 4 (by decide) q163 rfl (v := .int (σ.1 (20 + 2 * o))) rfl dX4_copy_2 ?_
  refine sv_put hC in_X4 tyX4 tyX4_ok nmX4 (11 + w) (sx_w (w := w) hw) rfl 4 (by decide) q163 rfl rfl rfl rfl (Nat.le_of_ble_eq_true rfl) (Xq := SW (sg_dA Γ) z K (ms_s σ (20 + 2 * w) (σ.1 (20 + 2 * o)))) (sx_w4 (w := w) hw) dX4_copy_5 ?_
  refine sv_aload_n hC dX4_copy_8 0 rfl rfl ?_
  refine sv_aload_n hC dX4_copy_9 1 rfl rfl ?_
  refine sv_get hC in_X4 (11 + o) (sx_w (w := o) ho) rfl 5 (by decide) q164 rfl (v := .int ((ms_s σ (20 + 2 * w) (σ.1 (20 + 2 * o))).1 (21 + 2 * o))) rfl dX4_copy_10 ?_
  refine sv_put hC in_X4 tyX4 tyX4_ok nmX4 (11 + w) (sx_w (w := w) hw) rfl 5 (by decide) q164 rfl rfl rfl rfl (Nat.le_of_ble_eq_true rfl) (Xq := SW (sg_dA Γ) z K (ms_s (ms_s σ (20 + 2 * w) (σ.1 (20 + 2 * o))) (21 + 2 * w) ((ms_s σ (20 + 2 * w) (σ.1 (20 + 2 * o))).1 (21 + 2 * o)))) (sx_w5 (w := w) hw) dX4_copy_13 ?_
  refine sv_aload_n hC dX4_copy_16 1 rfl rfl ?_
  refine sv_get hC in_X4 (11 + o) (sx_w (w := o) ho) rfl 0 (by decide) q155 rfl (v := .ref (z.1 (7 * o + 20))) rfl dX4_copy_17 ?_
  refine sv_iconst hC (v := 0) dX4_copy_20 (by decide) ?_
  refine sv_aload_n hC dX4_copy_21 0 rfl rfl ?_
  refine sv_get hC in_X4 (11 + w) (sx_w (w := w) hw) rfl 0 (by decide) q155 rfl (v := .ref (z.1 (7 * w + 20))) rfl dX4_copy_22 ?_
  refine sv_iconst hC (v := 0) dX4_copy_25 (by decide) ?_
  refine sv_iconst hC (v := 4) dX4_copy_26 (by decide) ?_
  refine sv_copy hC q867 q426 q425 q70 (7 * o + 20) (7 * w + 20) 0 (sx_a (XA_sd (w := o) ho)) (sx_a (XA_sd (w := w) hw)) rfl rfl (by decide) (by decide) (by decide) (by decide) (by decide) (fun i hi => rfl) (X' := SW (sg_dA Γ) z K (ms_w (ms_s (ms_s σ (20 + 2 * w) (σ.1 (20 + 2 * o))) (21 + 2 * w) ((ms_s σ (20 + 2 * w) (σ.1 (20 + 2 * o))).1 (21 + 2 * o))) (7 * w) (va_cpy ((ms_s (ms_s σ (20 + 2 * w) (σ.1 (20 + 2 * o))) (21 + 2 * w) ((ms_s σ (20 + 2 * w) (σ.1 (20 + 2 * o))).1 (21 + 2 * o))).2 (7 * o)) ((ms_s (ms_s σ (20 + 2 * w) (σ.1 (20 + 2 * o))) (21 + 2 * w) ((ms_s σ (20 + 2 * w) (σ.1 (20 + 2 * o))).1 (21 + 2 * o))).2 (7 * w)) (0 : Int32).toNatClampNeg (0 : Int32).toNatClampNeg (4 : Int32).toNatClampNeg))) (sx_aw (XA_sd (w := w) hw) _) (by decide) (Nat.le_of_ble_eq_true rfl) dX4_copy_27 ?_
  refine sv_iconst hC (v := 0) dX4_copy_30 (by decide) ?_
  refine sv_istore_n hC dX4_copy_31 rfl (by decide) (lvq := [(2, .int 0), (0, .ref (z.1 (11 + w))), (1, .ref (z.1 (11 + o)))]) rfl ?_
  refine sv_loc [1, 2, 0] (lvq := [(0, .ref (z.1 (11 + w))), (1, .ref (z.1 (11 + o))), (2, .int 0)]) rfl ?_
  exact wk_xdX4_copy_32 z K hz w o hw ho hC hQ sv_FU 0 (ms_w (ms_s (ms_s σ (20 + 2 * w) (σ.1 (20 + 2 * o))) (21 + 2 * w) ((ms_s σ (20 + 2 * w) (σ.1 (20 + 2 * o))).1 (21 + 2 * o))) (7 * w) (va_cpy ((ms_s (ms_s σ (20 + 2 * w) (σ.1 (20 + 2 * o))) (21 + 2 * w) ((ms_s σ (20 + 2 * w) (σ.1 (20 + 2 * o))).1 (21 + 2 * o))).2 (7 * o)) ((ms_s (ms_s σ (20 + 2 * w) (σ.1 (20 + 2 * o))) (21 + 2 * w) ((ms_s σ (20 + 2 * w) (σ.1 (20 + 2 * o))).1 (21 + 2 * o))).2 (7 * w)) (0 : Int32).toNatClampNeg (0 : Int32).toNatClampNeg (4 : Int32).toNatClampNeg)) h
set_option maxHeartbeats 2000000 in
theorem met_xdX4_copy {l : Launch} {s0 : State} {D : va_G} {dA : Nat → ClassId} (hF : sv_F s0 D dA) (z : XZ) (K : XK) (hz : SP s0 dA z K) (w : Nat) (o : Nat) (hw : w < 3) (ho : o < 3) (σ : MSt) {r0 : MSt} (h : xdX4_copy K w o σ = some r0) : sv_M l s0 D yX4_copy cX4_copy 3 none rm_X4_copy [.ref (z.1 (11 + w)), .ref (z.1 (11 + o))] (SW dA z K σ) (sv_pV (SW dA z K r0)) :=
  sv_met hF (by decide) (Nat.le_of_ble_eq_true rfl) (fun Γ hC hQ hmn e1 e2 e3 e4 => by
    subst e1 e2 e3 e4
    exact wk_xdX4_copy z K hz w o hw ho hC hQ σ h)
set_option maxHeartbeats 2000000 in
theorem wk_xdX5_isUsed_5b {Γ : sv_G} (z : XZ) (K : XK) (hz : SP (sg_s0 Γ) (sg_dA Γ) z K) (q : Nat) (hq : q < 2) (σ : MSt) (hC : sv_C Γ cX5_isUsed 5 RX5 (some .boolean) rm_X5_isUsed) {r0 : Int32} (hQ : sv_RQ Γ (sv_pI r0 (SW (sg_dA Γ) z K σ)) 0 0)  (rk_5 : Int32 → Int32 → Int32 → Int32 → Option Int32) (hk_5 : ∀ (x1 : Int32) (x2 : Int32) (x3 : Int32) (x4 : Int32), rk_5 x1 x2 x3 x4 = some r0 → sv_V Γ (SW (sg_dA Γ) z K σ) 0 0 5 [(0, .ref (z.1 (17 + q))), (1, .int x1), (2, .int x2), (3, .int x3), (4, .int x4)] []) (x1 : Int32) (x2 : Int32) (x3 : Int32) (x4 : Int32)  (h : xdX5_isUsed_5b K q σ rk_5 x1 x2 x3 x4 = some r0) : sv_V Γ (SW (sg_dA Γ) z K σ) 0 0 5 [(0, .ref (z.1 (17 + q))), (1, .int x1), (2, .int x2), (3, .int x3), (4, .int x4)] [] := by
  unfold xdX5_isUsed_5b at h
  refine sv_iload hC dX5_isUsed_5 4 rfl ?_
  refine sv_iload_n hC dX5_isUsed_7 1 rfl rfl ?_
  refine sv_icmp_ge hC (tgt := 36) dX5_isUsed_8 (by decide) (fun c1 => ?_) (fun c1 => ?_)
  · have h := sv_it c1 h
    refine sv_iload_n hC dX5_isUsed_36 3 rfl rfl ?_
    obtain ⟨b2, eb2, h⟩ := sv_ob h
    obtain ⟨e1, e2⟩ := sv_zb_n eb2
    subst e1
    exact sv_zret hC hQ dX5_isUsed_37 e2 (by have e := Option.some.inj h; subst e; exact ⟨rfl, rfl⟩)
  · have h := sv_if c1 h
    refine sv_iload_n hC dX5_isUsed_11 3 rfl rfl ?_
    refine sv_aload_n hC dX5_isUsed_12 0 rfl rfl ?_
    refine sv_get hC in_X5 (17 + q) (sx_q (q := q) hq) rfl 0 (by decide) q188 rfl (v := .ref (z.1 (106 + q + 20))) rfl dX5_isUsed_13 ?_
    refine sv_iload hC dX5_isUsed_16 4 rfl ?_
    obtain ⟨j3, ej3, h⟩ := sv_ob h
    refine sv_bald hC (106 + q + 20) (f := σ.2 (106 + q)) (sx_a (XA_st (q := q) hq)) rfl (j := j3) ej3 dX5_isUsed_18 ?_
    refine sv_iload_n hC dX5_isUsed_19 2 rfl rfl ?_
    refine sv_icmp_ne hC (tgt := 27) dX5_isUsed_20 (by decide) (fun c4 => ?_) (fun c4 => ?_)
    · have h := sv_if c4 h
      refine sv_iconst hC (v := 0) dX5_isUsed_27 (by decide) ?_
      refine sv_ior hC dX5_isUsed_28 ?_
      refine sv_istore_n hC dX5_isUsed_29 rfl (by decide) (lvq := [(3, .int (x3 ||| 0)), (0, .ref (z.1 (17 + q))), (1, .int x1), (2, .int x2), (4, .int x4)]) rfl ?_
      refine sv_iinc hC (v := x4 + 1) dX5_isUsed_30 4 rfl rfl (by decide) (lvq := [(4, .int (x4 + 1)), (3, .int (x3 ||| 0)), (0, .ref (z.1 (17 + q))), (1, .int x1), (2, .int x2)]) rfl ?_
      refine sv_goto hC (tgt := 5) dX5_isUsed_33 (by decide) ?_
      refine sv_loc [2, 3, 4, 1, 0] (lvq := [(0, .ref (z.1 (17 + q))), (1, .int x1), (2, .int x2), (3, .int (x3 ||| 0)), (4, .int (x4 + 1))]) rfl ?_
      exact hk_5 x1 x2 (x3 ||| 0) (x4 + 1) h
    · have h := sv_it c4 h
      refine sv_iconst hC (v := 1) dX5_isUsed_23 (by decide) ?_
      refine sv_goto hC (tgt := 28) dX5_isUsed_24 (by decide) ?_
      refine sv_ior hC dX5_isUsed_28 ?_
      refine sv_istore_n hC dX5_isUsed_29 rfl (by decide) (lvq := [(3, .int (x3 ||| 1)), (0, .ref (z.1 (17 + q))), (1, .int x1), (2, .int x2), (4, .int x4)]) rfl ?_
      refine sv_iinc hC (v := x4 + 1) dX5_isUsed_30 4 rfl rfl (by decide) (lvq := [(4, .int (x4 + 1)), (3, .int (x3 ||| 1)), (0, .ref (z.1 (17 + q))), (1, .int x1), (2, .int x2)]) rfl ?_
      refine sv_goto hC (tgt := 5) dX5_isUsed_33 (by decide) ?_
      refine sv_loc [2, 3, 4, 1, 0] (lvq := [(0, .ref (z.1 (17 + q))), (1, .int x1), (2, .int x2), (3, .int (x3 ||| 1)), (4, .int (x4 + 1))]) rfl ?_
      exact hk_5 x1 x2 (x3 ||| 1) (x4 + 1) h
set_option maxHeartbeats 2000000 in
theorem wk_xdX5_isUsed_5 {Γ : sv_G} (z : XZ) (K : XK) (hz : SP (sg_s0 Γ) (sg_dA Γ) z K) (q : Nat) (hq : q < 2) (σ : MSt) (hC : sv_C Γ cX5_isUsed 5 RX5 (some .boolean) rm_X5_isUsed) {r0 : Int32} (hQ : sv_RQ Γ (sv_pI r0 (SW (sg_dA Γ) z K σ)) 0 0)  : ∀ (n : Nat) (x1 : Int32) (x2 : Int32) (x3 : Int32) (x4 : Int32)  (h : xdX5_isUsed_5 K q σ n x1 x2 x3 x4 = some r0), sv_V Γ (SW (sg_dA Γ) z K σ) 0 0 5 [(0, .ref (z.1 (17 + q))), (1, .int x1), (2, .int x2), (3, .int x3), (4, .int x4)] [] := by
  intro n
  induction n with
  | zero => intro x1 x2 x3 x4 h; cases h
  | succ n ih => intro x1 x2 x3 x4 h; exact wk_xdX5_isUsed_5b z K hz q hq σ hC hQ (xdX5_isUsed_5 K q σ n) ih x1 x2 x3 x4 h
set_option maxHeartbeats 2000000 in
theorem wk_xdX5_isUsed {Γ : sv_G} (z : XZ) (K : XK) (hz : SP (sg_s0 Γ) (sg_dA Γ) z K) (q : Nat) (hq : q < 2) (σ : MSt) (hC : sv_C Γ cX5_isUsed 5 RX5 (some .boolean) rm_X5_isUsed) {r0 : Int32} (hQ : sv_RQ Γ (sv_pI r0 (SW (sg_dA Γ) z K σ)) 0 0) (x1 : Int32) (x2 : Int32) (h : xdX5_isUsed K q σ x1 x2 = some r0) : sv_V Γ (SW (sg_dA Γ) z K σ) 0 0 0 [(0, .ref (z.1 (17 + q))), (1, .int x1), (2, .int x2)] [] := by
  unfold xdX5_isUsed at h
  refine sv_iconst hC (v := 0) dX5_isUsed_0 (by decide) ?_
  refine sv_istore_n hC dX5_isUsed_1 rfl (by decide) (lvq := [(3, .int 0), (0, .ref (z.1 (17 + q))), (1, .int x1), (2, .int x2)]) rfl ?_
  refine sv_iconst hC (v := 0) dX5_isUsed_2 (by decide) ?_
  refine sv_istore hC dX5_isUsed_3 (by decide) (lvq := [(4, .int 0), (3, .int 0), (0, .ref (z.1 (17 + q))), (1, .int x1), (2, .int x2)]) rfl ?_
  refine sv_loc [2, 3, 4, 1, 0] (lvq := [(0, .ref (z.1 (17 + q))), (1, .int x1), (2, .int x2), (3, .int 0), (4, .int 0)]) rfl ?_
  exact wk_xdX5_isUsed_5 z K hz q hq σ hC hQ sv_FU x1 x2 0 0 h
set_option maxHeartbeats 2000000 in
theorem met_xdX5_isUsed {l : Launch} {s0 : State} {D : va_G} {dA : Nat → ClassId} (hF : sv_F s0 D dA) (z : XZ) (K : XK) (hz : SP s0 dA z K) (q : Nat) (hq : q < 2) (σ : MSt) (x1 : Int32) (x2 : Int32) {r0 : Int32} (h : xdX5_isUsed K q σ x1 x2 = some r0) : sv_M l s0 D yX5_isUsed cX5_isUsed 5 (some .boolean) rm_X5_isUsed [.ref (z.1 (17 + q)), .int x1, .int x2] (SW dA z K σ) (sv_pI r0 (SW dA z K σ)) :=
  sv_met hF (by decide) (Nat.le_of_ble_eq_true rfl) (fun Γ hC hQ hmn e1 e2 e3 e4 => by
    subst e1 e2 e3 e4
    exact wk_xdX5_isUsed z K hz q hq σ hC hQ x1 x2 h)
set_option maxHeartbeats 2000000 in
theorem wk_xdX5_next_63b {Γ : sv_G} (z : XZ) (K : XK) (hz : SP (sg_s0 Γ) (sg_dA Γ) z K) (q : Nat) (hq : q < 2) (hC : sv_C Γ cX5_next 4 RX5 (some .boolean) rm_X5_next) {r0 : Int32 × MSt} (hQ : sv_RQ Γ (sv_pI r0.1 (SW (sg_dA Γ) z K r0.2)) 0 0)  (rk_63 : Int32 → MSt → Option (Int32 × MSt)) (hk_63 : ∀ (x3 : Int32) (σ : MSt), rk_63 x3 σ = some r0 → sv_V Γ (SW (sg_dA Γ) z K σ) 0 0 63 [(0, .ref (z.1 (17 + q))), (3, .int x3)] []) (x3 : Int32) (σ : MSt)  (h : xdX5_next_63b K q rk_63 x3 σ = some r0) : sv_V Γ (SW (sg_dA Γ) z K σ) 0 0 63 [(0, .ref (z.1 (17 + q))), (3, .int x3)] [] := by
  unfold xdX5_next_63b at h
  refine sv_iload_n hC dX5_next_63 1 rfl rfl ?_
  refine sv_iconst hC (v := 4) dX5_next_64 (by decide) ?_
  refine sv_icmp_ge hC (tgt := 81) dX5_next_65 (by decide) (fun c11 => ?_) (fun c11 => ?_)
  · have h := sv_it c11 h
    refine sv_iconst hC (v := 1) dX5_next_81 (by decide) ?_
    exact sv_zret hC hQ dX5_next_82 rfl (by have e := Option.some.inj h; subst e; exact ⟨rfl, rfl⟩)
  · have h := sv_if c11 h
    refine sv_aload_n hC dX5_next_68 0 rfl rfl ?_
    refine sv_get hC in_X5 (17 + q) (sx_q (q := q) hq) rfl 0 (by decide) q188 rfl (v := .ref (z.1 (106 + q + 20))) rfl dX5_next_69 ?_
    refine sv_iload_n hC dX5_next_72 1 rfl rfl ?_
    refine sv_iconst hC (v := (-1)) dX5_next_73 (by decide) ?_
    obtain ⟨j12, ej12, h⟩ := sv_ob h
    refine sv_bast hC (106 + q + 20) (f := σ.2 (106 + q)) (sx_a (XA_st (q := q) hq)) rfl (j := j12) ej12 (Xq := SW (sg_dA Γ) z K (ms_a σ (106 + q) j12 (vp_nar .byte (-1)))) (sx_as (XA_st (q := q) hq)) dX5_next_74 ?_
    refine sv_iinc hC (v := x3 + 1) dX5_next_75 1 rfl rfl (by decide) (lvq := [(3, .int (x3 + 1)), (0, .ref (z.1 (17 + q)))]) rfl ?_
    refine sv_goto hC (tgt := 63) dX5_next_78 (by decide) ?_
    refine sv_loc [1, 0] (lvq := [(0, .ref (z.1 (17 + q))), (3, .int (x3 + 1))]) rfl ?_
    exact hk_63 (x3 + 1) (ms_a σ (106 + q) j12 (vp_nar .byte (-1))) h
set_option maxHeartbeats 2000000 in
theorem wk_xdX5_next_63 {Γ : sv_G} (z : XZ) (K : XK) (hz : SP (sg_s0 Γ) (sg_dA Γ) z K) (q : Nat) (hq : q < 2) (hC : sv_C Γ cX5_next 4 RX5 (some .boolean) rm_X5_next) {r0 : Int32 × MSt} (hQ : sv_RQ Γ (sv_pI r0.1 (SW (sg_dA Γ) z K r0.2)) 0 0)  : ∀ (n : Nat) (x3 : Int32) (σ : MSt)  (h : xdX5_next_63 K q n x3 σ = some r0), sv_V Γ (SW (sg_dA Γ) z K σ) 0 0 63 [(0, .ref (z.1 (17 + q))), (3, .int x3)] [] := by
  intro n
  induction n with
  | zero => intro x3 σ h; cases h
  | succ n ih => intro x3 σ h; exact wk_xdX5_next_63b z K hz q hq hC hQ (xdX5_next_63 K q n) ih x3 σ h
set_option maxHeartbeats 2000000 in
theorem wk_xdX5_next_15b {Γ : sv_G} (z : XZ) (K : XK) (hz : SP (sg_s0 Γ) (sg_dA Γ) z K) (q : Nat) (hq : q < 2) (hC : sv_C Γ cX5_next 4 RX5 (some .boolean) rm_X5_next) {r0 : Int32 × MSt} (hQ : sv_RQ Γ (sv_pI r0.1 (SW (sg_dA Γ) z K r0.2)) 0 0) (rk_2 : Int32 → MSt → Option (Int32 × MSt)) (hk_2 : ∀ (x1 : Int32) (σ : MSt), rk_2 x1 σ = some r0 → sv_V Γ (SW (sg_dA Γ) z K σ) 0 0 2 [(0, .ref (z.1 (17 + q))), (1, .int x1)] []) (rk_15 : Int32 → Int32 → MSt → Option (Int32 × MSt)) (hk_15 : ∀ (x1 : Int32) (x2 : Int32) (σ : MSt), rk_15 x1 x2 σ = some r0 → sv_V Γ (SW (sg_dA Γ) z K σ) 0 0 15 [(0, .ref (z.1 (17 + q))), (1, .int x1), (2, .int x2)] []) (x1 : Int32) (x2 : Int32) (σ : MSt)  (h : xdX5_next_15b K q rk_2 rk_15 x1 x2 σ = some r0) : sv_V Γ (SW (sg_dA Γ) z K σ) 0 0 15 [(0, .ref (z.1 (17 + q))), (1, .int x1), (2, .int x2)] [] := by
  unfold xdX5_next_15b at h
  refine sv_iload_n hC dX5_next_15 2 rfl rfl ?_
  refine sv_iconst hC (v := 4) dX5_next_16 (by decide) ?_
  refine sv_icmp_ge hC (tgt := 89) dX5_next_17 (by decide) (fun c3 => ?_) (fun c3 => ?_)
  · have h := sv_it c3 h
    refine sv_iinc hC (v := x1 + (-1)) dX5_next_89 1 rfl rfl (by decide) (lvq := [(1, .int (x1 + (-1))), (0, .ref (z.1 (17 + q))), (2, .int x2)]) rfl ?_
    refine sv_goto hC (tgt := 2) dX5_next_92 (by decide) ?_
    refine sv_loc [1, 0] (lvq := [(0, .ref (z.1 (17 + q))), (1, .int (x1 + (-1)))]) rfl ?_
    exact hk_2 (x1 + (-1)) σ h
  · have h := sv_if c3 h
    refine sv_aload_n hC dX5_next_20 0 rfl rfl ?_
    refine sv_get hC in_X5 (17 + q) (sx_q (q := q) hq) rfl 1 (by decide) q190 rfl (v := .ref (z.1 0)) rfl dX5_next_21 ?_
    refine sv_iload_n hC dX5_next_24 1 rfl rfl ?_
    obtain ⟨r4, er4, h⟩ := sv_ob h
    refine sv_wVNi (nn := 1) hC (met_xdX0_isField hC.F z K hz σ x1 er4) 0 1 (sx_at (by decide)) rfl rfl q878 (lw_meth q739) q738 qs6 q52 (by decide +kernel) ⟨by decide, by decide⟩ ⟨rfl, rfl⟩ rfl rfl (Nat.le_of_ble_eq_true rfl) ⟨Nat.le_refl 0, Nat.le_refl 0⟩ dX5_next_25 ?_
    refine sv_if_eq hC (tgt := 89) dX5_next_28 (by decide) (fun c5 => ?_) (fun c5 => ?_)
    · have h := sv_it c5 h
      refine sv_iinc hC (v := x1 + (-1)) dX5_next_89 1 rfl rfl (by decide) (lvq := [(1, .int (x1 + (-1))), (0, .ref (z.1 (17 + q))), (2, .int x2)]) rfl ?_
      refine sv_goto hC (tgt := 2) dX5_next_92 (by decide) ?_
      refine sv_loc [1, 0] (lvq := [(0, .ref (z.1 (17 + q))), (1, .int (x1 + (-1)))]) rfl ?_
      exact hk_2 (x1 + (-1)) σ h
    · have h := sv_if c5 h
      refine sv_aload_n hC dX5_next_31 0 rfl rfl ?_
      refine sv_get hC in_X5 (17 + q) (sx_q (q := q) hq) rfl 1 (by decide) q190 rfl (v := .ref (z.1 0)) rfl dX5_next_32 ?_
      refine sv_iload_n hC dX5_next_35 2 rfl rfl ?_
      obtain ⟨r6, er6, h⟩ := sv_ob h
      refine sv_wVNi (nn := 1) hC (met_xdX0_isCoat hC.F z K hz σ x2 er6) 0 1 (sx_at (by decide)) rfl rfl q879 (lw_meth q760) q759 qs8 q52 (by decide +kernel) ⟨by decide, by decide⟩ ⟨rfl, rfl⟩ rfl rfl (Nat.le_of_ble_eq_true rfl) ⟨Nat.le_refl 0, Nat.le_refl 0⟩ dX5_next_36 ?_
      refine sv_if_eq hC (tgt := 83) dX5_next_39 (by decide) (fun c7 => ?_) (fun c7 => ?_)
      · have h := sv_it c7 h
        refine sv_iinc hC (v := x2 + 1) dX5_next_83 2 rfl rfl (by decide) (lvq := [(2, .int (x2 + 1)), (0, .ref (z.1 (17 + q))), (1, .int x1)]) rfl ?_
        refine sv_goto hC (tgt := 15) dX5_next_86 (by decide) ?_
        refine sv_loc [1, 2, 0] (lvq := [(0, .ref (z.1 (17 + q))), (1, .int x1), (2, .int (x2 + 1))]) rfl ?_
        exact hk_15 x1 (x2 + 1) σ h
      · have h := sv_if c7 h
        refine sv_aload_n hC dX5_next_42 0 rfl rfl ?_
        refine sv_iload_n hC dX5_next_43 1 rfl rfl ?_
        refine sv_iload_n hC dX5_next_44 2 rfl rfl ?_
        obtain ⟨r8, er8, h⟩ := sv_ob h
        refine sv_wVi (nn := 2) hC (met_xdX5_isUsed hC.F z K hz q hq σ x1 x2 er8) (17 + q) 6 (sx_q (q := q) hq) rfl rfl (lw_V q880 q882 qs17 q58 q883) (by decide +kernel) ⟨by decide, by decide⟩ ⟨rfl, rfl⟩ rfl rfl (Nat.le_of_ble_eq_true rfl) ⟨Nat.le_refl 0, Nat.le_refl 0⟩ dX5_next_45 ?_
        refine sv_if_ne hC (tgt := 83) dX5_next_48 (by decide) (fun c9 => ?_) (fun c9 => ?_)
        · have h := sv_if c9 h
          refine sv_iinc hC (v := x2 + 1) dX5_next_83 2 rfl rfl (by decide) (lvq := [(2, .int (x2 + 1)), (0, .ref (z.1 (17 + q))), (1, .int x1)]) rfl ?_
          refine sv_goto hC (tgt := 15) dX5_next_86 (by decide) ?_
          refine sv_loc [1, 2, 0] (lvq := [(0, .ref (z.1 (17 + q))), (1, .int x1), (2, .int (x2 + 1))]) rfl ?_
          exact hk_15 x1 (x2 + 1) σ h
        · have h := sv_it c9 h
          refine sv_aload_n hC dX5_next_51 0 rfl rfl ?_
          refine sv_get hC in_X5 (17 + q) (sx_q (q := q) hq) rfl 0 (by decide) q188 rfl (v := .ref (z.1 (106 + q + 20))) rfl dX5_next_52 ?_
          refine sv_iload_n hC dX5_next_55 1 rfl rfl ?_
          refine sv_iload_n hC dX5_next_56 2 rfl rfl ?_
          refine sv_i2b hC dX5_next_57 ?_
          obtain ⟨j10, ej10, h⟩ := sv_ob h
          refine sv_bast hC (106 + q + 20) (f := σ.2 (106 + q)) (sx_a (XA_st (q := q) hq)) rfl (j := j10) ej10 (Xq := SW (sg_dA Γ) z K (ms_a σ (106 + q) j10 (vp_nar .byte x2.toInt8.toInt32))) (sx_as (XA_st (q := q) hq)) dX5_next_58 ?_
          refine sv_iload_n hC dX5_next_59 1 rfl rfl ?_
          refine sv_iconst hC (v := 1) dX5_next_60 (by decide) ?_
          refine sv_iadd hC dX5_next_61 ?_
          refine sv_istore_n hC dX5_next_62 rfl (by decide) (lvq := [(3, .int (x1 + 1)), (0, .ref (z.1 (17 + q))), (1, .int x1), (2, .int x2)]) rfl ?_
          refine sv_loc [1, 0] (lvq := [(0, .ref (z.1 (17 + q))), (3, .int (x1 + 1))]) rfl ?_
          exact wk_xdX5_next_63 z K hz q hq hC hQ sv_FU (x1 + 1) (ms_a σ (106 + q) j10 (vp_nar .byte x2.toInt8.toInt32)) h
set_option maxHeartbeats 2000000 in
theorem wk_xdX5_next_15 {Γ : sv_G} (z : XZ) (K : XK) (hz : SP (sg_s0 Γ) (sg_dA Γ) z K) (q : Nat) (hq : q < 2) (hC : sv_C Γ cX5_next 4 RX5 (some .boolean) rm_X5_next) {r0 : Int32 × MSt} (hQ : sv_RQ Γ (sv_pI r0.1 (SW (sg_dA Γ) z K r0.2)) 0 0) (rk_2 : Int32 → MSt → Option (Int32 × MSt)) (hk_2 : ∀ (x1 : Int32) (σ : MSt), rk_2 x1 σ = some r0 → sv_V Γ (SW (sg_dA Γ) z K σ) 0 0 2 [(0, .ref (z.1 (17 + q))), (1, .int x1)] []) : ∀ (n : Nat) (x1 : Int32) (x2 : Int32) (σ : MSt)  (h : xdX5_next_15 K q rk_2 n x1 x2 σ = some r0), sv_V Γ (SW (sg_dA Γ) z K σ) 0 0 15 [(0, .ref (z.1 (17 + q))), (1, .int x1), (2, .int x2)] [] := by
  intro n
  induction n with
  | zero => intro x1 x2 σ h; cases h
  | succ n ih => intro x1 x2 σ h; exact wk_xdX5_next_15b z K hz q hq hC hQ rk_2 hk_2 (xdX5_next_15 K q rk_2 n) ih x1 x2 σ h
set_option maxHeartbeats 2000000 in
theorem wk_xdX5_next_2b {Γ : sv_G} (z : XZ) (K : XK) (hz : SP (sg_s0 Γ) (sg_dA Γ) z K) (q : Nat) (hq : q < 2) (hC : sv_C Γ cX5_next 4 RX5 (some .boolean) rm_X5_next) {r0 : Int32 × MSt} (hQ : sv_RQ Γ (sv_pI r0.1 (SW (sg_dA Γ) z K r0.2)) 0 0)  (rk_2 : Int32 → MSt → Option (Int32 × MSt)) (hk_2 : ∀ (x1 : Int32) (σ : MSt), rk_2 x1 σ = some r0 → sv_V Γ (SW (sg_dA Γ) z K σ) 0 0 2 [(0, .ref (z.1 (17 + q))), (1, .int x1)] []) (x1 : Int32) (σ : MSt)  (h : xdX5_next_2b K q rk_2 x1 σ = some r0) : sv_V Γ (SW (sg_dA Γ) z K σ) 0 0 2 [(0, .ref (z.1 (17 + q))), (1, .int x1)] [] := by
  unfold xdX5_next_2b at h
  refine sv_iload_n hC dX5_next_2 1 rfl rfl ?_
  refine sv_if_lt hC (tgt := 95) dX5_next_3 (by decide) (fun c1 => ?_) (fun c1 => ?_)
  · have h := sv_it c1 h
    refine sv_iconst hC (v := 0) dX5_next_95 (by decide) ?_
    exact sv_zret hC hQ dX5_next_96 rfl (by have e := Option.some.inj h; subst e; exact ⟨rfl, rfl⟩)
  · have h := sv_if c1 h
    refine sv_aload_n hC dX5_next_6 0 rfl rfl ?_
    refine sv_get hC in_X5 (17 + q) (sx_q (q := q) hq) rfl 0 (by decide) q188 rfl (v := .ref (z.1 (106 + q + 20))) rfl dX5_next_7 ?_
    refine sv_iload_n hC dX5_next_10 1 rfl rfl ?_
    obtain ⟨j2, ej2, h⟩ := sv_ob h
    refine sv_bald hC (106 + q + 20) (f := σ.2 (106 + q)) (sx_a (XA_st (q := q) hq)) rfl (j := j2) ej2 dX5_next_11 ?_
    refine sv_iconst hC (v := 1) dX5_next_12 (by decide) ?_
    refine sv_iadd hC dX5_next_13 ?_
    refine sv_istore_n hC dX5_next_14 rfl (by decide) (lvq := [(2, .int ((σ.2 (106 + q) j2) + 1)), (0, .ref (z.1 (17 + q))), (1, .int x1)]) rfl ?_
    refine sv_loc [1, 2, 0] (lvq := [(0, .ref (z.1 (17 + q))), (1, .int x1), (2, .int ((σ.2 (106 + q) j2) + 1))]) rfl ?_
    exact wk_xdX5_next_15 z K hz q hq hC hQ rk_2 hk_2 sv_FU x1 ((σ.2 (106 + q) j2) + 1) σ h
set_option maxHeartbeats 2000000 in
theorem wk_xdX5_next_2 {Γ : sv_G} (z : XZ) (K : XK) (hz : SP (sg_s0 Γ) (sg_dA Γ) z K) (q : Nat) (hq : q < 2) (hC : sv_C Γ cX5_next 4 RX5 (some .boolean) rm_X5_next) {r0 : Int32 × MSt} (hQ : sv_RQ Γ (sv_pI r0.1 (SW (sg_dA Γ) z K r0.2)) 0 0)  : ∀ (n : Nat) (x1 : Int32) (σ : MSt)  (h : xdX5_next_2 K q n x1 σ = some r0), sv_V Γ (SW (sg_dA Γ) z K σ) 0 0 2 [(0, .ref (z.1 (17 + q))), (1, .int x1)] [] := by
  intro n
  induction n with
  | zero => intro x1 σ h; cases h
  | succ n ih => intro x1 σ h; exact wk_xdX5_next_2b z K hz q hq hC hQ (xdX5_next_2 K q n) ih x1 σ h
set_option maxHeartbeats 2000000 in
theorem wk_xdX5_next {Γ : sv_G} (z : XZ) (K : XK) (hz : SP (sg_s0 Γ) (sg_dA Γ) z K) (q : Nat) (hq : q < 2) (hC : sv_C Γ cX5_next 4 RX5 (some .boolean) rm_X5_next) {r0 : Int32 × MSt} (hQ : sv_RQ Γ (sv_pI r0.1 (SW (sg_dA Γ) z K r0.2)) 0 0) (σ : MSt) (h : xdX5_next K q σ = some r0) : sv_V Γ (SW (sg_dA Γ) z K σ) 0 0 0 [(0, .ref (z.1 (17 + q)))] [] := by
  unfold xdX5_next at h
  refine sv_iconst hC (v := 3) dX5_next_0 (by decide) ?_
  refine sv_istore_n hC dX5_next_1 rfl (by decide) (lvq := [(1, .int 3), (0, .ref (z.1 (17 + q)))]) rfl ?_
  refine sv_loc [1, 0] (lvq := [(0, .ref (z.1 (17 + q))), (1, .int 3)]) rfl ?_
  exact wk_xdX5_next_2 z K hz q hq hC hQ sv_FU 3 σ h
set_option maxHeartbeats 2000000 in
theorem met_xdX5_next {l : Launch} {s0 : State} {D : va_G} {dA : Nat → ClassId} (hF : sv_F s0 D dA) (z : XZ) (K : XK) (hz : SP s0 dA z K) (q : Nat) (hq : q < 2) (σ : MSt) {r0 : Int32 × MSt} (h : xdX5_next K q σ = some r0) : sv_M l s0 D yX5_next cX5_next 4 (some .boolean) rm_X5_next [.ref (z.1 (17 + q))] (SW dA z K σ) (sv_pI r0.1 (SW dA z K r0.2)) :=
  sv_met hF (by decide) (Nat.le_of_ble_eq_true rfl) (fun Γ hC hQ hmn e1 e2 e3 e4 => by
    subst e1 e2 e3 e4
    exact wk_xdX5_next z K hz q hq hC hQ σ h)
set_option maxHeartbeats 2000000 in
theorem wk_xdX0_bestNext_67 {Γ : sv_G} (z : XZ) (K : XK) (hz : SP (sg_s0 Γ) (sg_dA Γ) z K) (hC : sv_C Γ cX0_bestNext 5 RX0 (some .int) rm_X0_bestNext) {r0 : Int32 × MSt} (hQ : sv_RQ Γ (sv_pI r0.1 (SW (sg_dA Γ) z K r0.2)) 0 0) (rk_11 : Int32 → Int32 → Int32 → MSt → Option (Int32 × MSt)) (hk_11 : ∀ (x1 : Int32) (x2 : Int32) (x3 : Int32) (σ : MSt), rk_11 x1 x2 x3 σ = some r0 → sv_V Γ (SW (sg_dA Γ) z K σ) 0 0 11 [(0, .ref (z.1 0)), (1, .int x1), (2, .int x2), (3, .int x3)] []) (x1 : Int32) (t0 : Int32) (σ : MSt)  (h : xdX0_bestNext_67 K rk_11 x1 t0 σ = some r0) : sv_V Γ (SW (sg_dA Γ) z K σ) 0 0 67 [(0, .ref (z.1 0)), (1, .int x1)] [.int t0] := by
  unfold xdX0_bestNext_67 at h
  refine sv_istore_n hC dX0_bestNext_67 rfl (by decide) (lvq := [(2, .int t0), (0, .ref (z.1 0)), (1, .int x1)]) rfl ?_
  refine sv_aload_n hC dX0_bestNext_68 1 rfl rfl ?_
  refine sv_get hC in_X0 0 (sx_at (by decide)) rfl 16 (by decide) q245 rfl (v := .ref (z.1 18)) rfl dX0_bestNext_69 ?_
  obtain ⟨p7, ep7, h⟩ := sv_ob h
  refine sv_wVi (nn := 0) hC (met_xdX5_next hC.F z K hz 1 (by decide) σ ep7) (17 + 1) 6 (sx_q (q := 1) (by decide)) rfl rfl (lw_V q874 q875 q876 q58 q877) (by decide +kernel) ⟨by decide, by decide⟩ ⟨rfl, rfl⟩ rfl rfl (Nat.le_of_ble_eq_true rfl) ⟨Nat.le_refl 0, Nat.le_refl 0⟩ dX0_bestNext_72 ?_
  refine sv_istore_n hC dX0_bestNext_75 rfl (by decide) (lvq := [(3, .int p7.1), (2, .int t0), (0, .ref (z.1 0)), (1, .int x1)]) rfl ?_
  refine sv_goto hC (tgt := 11) dX0_bestNext_76 (by decide) ?_
  refine sv_loc [2, 3, 1, 0] (lvq := [(0, .ref (z.1 0)), (1, .int x1), (2, .int t0), (3, .int p7.1)]) rfl ?_
  exact hk_11 x1 t0 p7.1 p7.2 h
set_option maxHeartbeats 2000000 in
theorem wk_xdX0_bestNext_11b {Γ : sv_G} (z : XZ) (K : XK) (hz : SP (sg_s0 Γ) (sg_dA Γ) z K) (hC : sv_C Γ cX0_bestNext 5 RX0 (some .int) rm_X0_bestNext) {r0 : Int32 × MSt} (hQ : sv_RQ Γ (sv_pI r0.1 (SW (sg_dA Γ) z K r0.2)) 0 0)  (rk_11 : Int32 → Int32 → Int32 → MSt → Option (Int32 × MSt)) (hk_11 : ∀ (x1 : Int32) (x2 : Int32) (x3 : Int32) (σ : MSt), rk_11 x1 x2 x3 σ = some r0 → sv_V Γ (SW (sg_dA Γ) z K σ) 0 0 11 [(0, .ref (z.1 0)), (1, .int x1), (2, .int x2), (3, .int x3)] []) (x1 : Int32) (x2 : Int32) (x3 : Int32) (σ : MSt)  (h : xdX0_bestNext_11b K rk_11 x1 x2 x3 σ = some r0) : sv_V Γ (SW (sg_dA Γ) z K σ) 0 0 11 [(0, .ref (z.1 0)), (1, .int x1), (2, .int x2), (3, .int x3)] [] := by
  unfold xdX0_bestNext_11b at h
  refine sv_iload_n hC dX0_bestNext_11 3 rfl rfl ?_
  refine sv_if_eq hC (tgt := 79) dX0_bestNext_12 (by decide) (fun c2 => ?_) (fun c2 => ?_)
  · have h := sv_it c2 h
    refine sv_iload_n hC dX0_bestNext_79 2 rfl rfl ?_
    exact sv_iret hC hQ dX0_bestNext_80 (by have e := Option.some.inj h; subst e; exact ⟨rfl, rfl⟩)
  · have h := sv_if c2 h
    refine sv_aload_n hC dX0_bestNext_15 0 rfl rfl ?_
    refine sv_get hC in_X0 0 (sx_at (by decide)) rfl 12 (by decide) q239 rfl (v := .ref (z.1 13)) rfl dX0_bestNext_16 ?_
    refine sv_aload_n hC dX0_bestNext_19 0 rfl rfl ?_
    refine sv_get hC in_X0 0 (sx_at (by decide)) rfl 11 (by decide) q238 rfl (v := .ref (z.1 12)) rfl dX0_bestNext_20 ?_
    obtain ⟨s3, es3, h⟩ := sv_ob h
    refine sv_wVv (nn := 1) hC (met_xdX4_copy hC.F z K hz 2 1 (by decide) (by decide) σ es3) (11 + 2) 5 (sx_w (w := 2) (by decide)) rfl rfl (lw_V q863 q864 q865 q57 q866) (by decide +kernel) ⟨by decide, by decide⟩ ⟨rfl, rfl⟩ rfl rfl (Nat.le_of_ble_eq_true rfl) ⟨Nat.le_refl 0, Nat.le_refl 0⟩ dX0_bestNext_23 ?_
    refine sv_aload_n hC dX0_bestNext_26 0 rfl rfl ?_
    refine sv_get hC in_X0 0 (sx_at (by decide)) rfl 12 (by decide) q239 rfl (v := .ref (z.1 13)) rfl dX0_bestNext_27 ?_
    refine sv_aload_n hC dX0_bestNext_30 0 rfl rfl ?_
    refine sv_get hC in_X0 0 (sx_at (by decide)) rfl 16 (by decide) q245 rfl (v := .ref (z.1 18)) rfl dX0_bestNext_31 ?_
    refine sv_get hC in_X5 (17 + 1) (sx_q (q := 1) (by decide)) rfl 0 (by decide) q189 rfl (v := .ref (z.1 (106 + 1 + 20))) rfl dX0_bestNext_34 ?_
    refine sv_aload_n hC dX0_bestNext_37 0 rfl rfl ?_
    refine sv_get hC in_X0 0 (sx_at (by decide)) rfl 8 (by decide) q235 rfl (v := .ref (z.1 5)) rfl dX0_bestNext_38 ?_
    refine sv_get hC in_X3 (5 + 0) (sx_p (p := 0) (by decide)) rfl 1 (by decide) q138 rfl (v := .ref (z.1 (8 + 2 * 0))) rfl dX0_bestNext_41 ?_
    refine sv_iload_n hC dX0_bestNext_44 1 rfl rfl ?_
    obtain ⟨j4, ej4, h⟩ := sv_ob h
    refine sv_aldr hC (8 + 2 * 0) 7 (sx_pr (p := 0) (by decide)) rfl rfl (j := j4) (b := z.1 (j4 + (42 + 42 * 0) + 20)) ej4 rfl dX0_bestNext_45 ?_
    obtain ⟨p5, ep5, h⟩ := sv_ob h
    refine sv_wVi (nn := 2) hC (met_xdX4_go hC.F z K hz 2 (106 + 1) (j4 + (42 + 42 * 0)) (by decide) (XA_st (q := 1) (by decide)) (XA_pr (p := 0) (d := j4) (by decide) (sv_ixl ej4)) s3 ep5) (11 + 2) 5 (sx_w (w := 2) (by decide)) rfl rfl (lw_V q868 q794 q795 q57 q796) (by decide +kernel) ⟨by decide, by decide⟩ ⟨rfl, rfl⟩ rfl rfl (Nat.le_of_ble_eq_true rfl) ⟨Nat.le_refl 0, Nat.le_refl 0⟩ dX0_bestNext_46 ?_
    refine sv_istore hC dX0_bestNext_49 (by decide) (lvq := [(4, .int p5.1), (0, .ref (z.1 0)), (1, .int x1), (2, .int x2), (3, .int x3)]) rfl ?_
    refine sv_iload_n hC dX0_bestNext_51 3 rfl rfl ?_
    refine sv_iconst hC (v := (-1)) dX0_bestNext_52 (by decide) ?_
    refine sv_icmp_ne hC (tgt := 61) dX0_bestNext_53 (by decide) (fun c6 => ?_) (fun c6 => ?_)
    · have h := sv_if c6 h
      refine sv_iload_n hC dX0_bestNext_61 3 rfl rfl ?_
      refine sv_iload hC dX0_bestNext_62 0 rfl ?_
      refine sv_mmin hC q873 q422 q69 q423 (by decide) (Nat.le_of_ble_eq_true rfl) ⟨Nat.le_refl 0, Nat.le_refl 0⟩ dX0_bestNext_64 ?_
      refine sv_loc [1, 2] (lvq := [(0, .ref (z.1 0)), (1, .int x1)]) rfl ?_
      exact wk_xdX0_bestNext_67 z K hz hC hQ rk_11 hk_11 x1 (if p5.1 < x2 then p5.1 else x2) p5.2 h
    · have h := sv_it c6 h
      refine sv_iload hC dX0_bestNext_56 0 rfl ?_
      refine sv_goto hC (tgt := 67) dX0_bestNext_58 (by decide) ?_
      refine sv_loc [1, 2] (lvq := [(0, .ref (z.1 0)), (1, .int x1)]) rfl ?_
      exact wk_xdX0_bestNext_67 z K hz hC hQ rk_11 hk_11 x1 p5.1 p5.2 h
set_option maxHeartbeats 2000000 in
theorem wk_xdX0_bestNext_11 {Γ : sv_G} (z : XZ) (K : XK) (hz : SP (sg_s0 Γ) (sg_dA Γ) z K) (hC : sv_C Γ cX0_bestNext 5 RX0 (some .int) rm_X0_bestNext) {r0 : Int32 × MSt} (hQ : sv_RQ Γ (sv_pI r0.1 (SW (sg_dA Γ) z K r0.2)) 0 0)  : ∀ (n : Nat) (x1 : Int32) (x2 : Int32) (x3 : Int32) (σ : MSt)  (h : xdX0_bestNext_11 K n x1 x2 x3 σ = some r0), sv_V Γ (SW (sg_dA Γ) z K σ) 0 0 11 [(0, .ref (z.1 0)), (1, .int x1), (2, .int x2), (3, .int x3)] [] := by
  intro n
  induction n with
  | zero => intro x1 x2 x3 σ h; cases h
  | succ n ih => intro x1 x2 x3 σ h; exact wk_xdX0_bestNext_11b z K hz hC hQ (xdX0_bestNext_11 K n) ih x1 x2 x3 σ h
set_option maxHeartbeats 2000000 in
theorem wk_xdX0_bestNext {Γ : sv_G} (z : XZ) (K : XK) (hz : SP (sg_s0 Γ) (sg_dA Γ) z K) (hC : sv_C Γ cX0_bestNext 5 RX0 (some .int) rm_X0_bestNext) {r0 : Int32 × MSt} (hQ : sv_RQ Γ (sv_pI r0.1 (SW (sg_dA Γ) z K r0.2)) 0 0) (x1 : Int32) (σ : MSt) (h : xdX0_bestNext K x1 σ = some r0) : sv_V Γ (SW (sg_dA Γ) z K σ) 0 0 0 [(0, .ref (z.1 0)), (1, .int x1)] [] := by
  unfold xdX0_bestNext at h
  refine sv_iconst hC (v := (-1)) dX0_bestNext_0 (by decide) ?_
  refine sv_istore_n hC dX0_bestNext_1 rfl (by decide) (lvq := [(2, .int (-1)), (0, .ref (z.1 0)), (1, .int x1)]) rfl ?_
  refine sv_aload_n hC dX0_bestNext_2 1 rfl rfl ?_
  refine sv_get hC in_X0 0 (sx_at (by decide)) rfl 16 (by decide) q245 rfl (v := .ref (z.1 18)) rfl dX0_bestNext_3 ?_
  obtain ⟨s1, es1, h⟩ := sv_ob h
  refine sv_wVv (nn := 0) hC (met_xdX5_first hC.F z K hz 1 (by decide) σ es1) (17 + 1) 6 (sx_q (q := 1) (by decide)) rfl rfl (lw_V q858 q859 q860 q58 q861) (by decide +kernel) ⟨by decide, by decide⟩ ⟨rfl, rfl⟩ rfl rfl (Nat.le_of_ble_eq_true rfl) ⟨Nat.le_refl 0, Nat.le_refl 0⟩ dX0_bestNext_6 ?_
  refine sv_iconst hC (v := 1) dX0_bestNext_9 (by decide) ?_
  refine sv_istore_n hC dX0_bestNext_10 rfl (by decide) (lvq := [(3, .int 1), (2, .int (-1)), (0, .ref (z.1 0)), (1, .int x1)]) rfl ?_
  refine sv_loc [2, 3, 1, 0] (lvq := [(0, .ref (z.1 0)), (1, .int x1), (2, .int (-1)), (3, .int 1)]) rfl ?_
  exact wk_xdX0_bestNext_11 z K hz hC hQ sv_FU x1 (-1) 1 s1 h
set_option maxHeartbeats 2000000 in
theorem met_xdX0_bestNext {l : Launch} {s0 : State} {D : va_G} {dA : Nat → ClassId} (hF : sv_F s0 D dA) (z : XZ) (K : XK) (hz : SP s0 dA z K) (x1 : Int32) (σ : MSt) {r0 : Int32 × MSt} (h : xdX0_bestNext K x1 σ = some r0) : sv_M l s0 D yX0_bestNext cX0_bestNext 5 (some .int) rm_X0_bestNext [.ref (z.1 0), .int x1] (SW dA z K σ) (sv_pI r0.1 (SW dA z K r0.2)) :=
  sv_met hF (by decide) (Nat.le_of_ble_eq_true rfl) (fun Γ hC hQ hmn e1 e2 e3 e4 => by
    subst e1 e2 e3 e4
    exact wk_xdX0_bestNext z K hz hC hQ x1 σ h)
set_option maxHeartbeats 2000000 in
theorem wk_xdX0_bestOf_118 {Γ : sv_G} (z : XZ) (K : XK) (hz : SP (sg_s0 Γ) (sg_dA Γ) z K) (hC : sv_C Γ cX0_bestOf 6 RX0 (some .int) rm_X0_bestOf) {r0 : Int32 × MSt} (hQ : sv_RQ Γ (sv_pI r0.1 (SW (sg_dA Γ) z K r0.2)) 0 0) (rk_25 : Int32 → Int32 → Int32 → Int32 → MSt → Option (Int32 × MSt)) (hk_25 : ∀ (x1 : Int32) (x2 : Int32) (x3 : Int32) (x4 : Int32) (σ : MSt), rk_25 x1 x2 x3 x4 σ = some r0 → sv_V Γ (SW (sg_dA Γ) z K σ) 0 0 25 [(0, .ref (z.1 0)), (1, .int x1), (2, .int x2), (3, .int x3), (4, .int x4)] []) (x1 : Int32) (x2 : Int32) (x3 : Int32) (σ : MSt)  (h : xdX0_bestOf_118 K rk_25 x1 x2 x3 σ = some r0) : sv_V Γ (SW (sg_dA Γ) z K σ) 0 0 118 [(0, .ref (z.1 0)), (1, .int x1), (2, .int x2), (3, .int x3)] [] := by
  unfold xdX0_bestOf_118 at h
  refine sv_aload_n hC dX0_bestOf_118 0 rfl rfl ?_
  refine sv_get hC in_X0 0 (sx_at (by decide)) rfl 15 (by decide) q244 rfl (v := .ref (z.1 17)) rfl dX0_bestOf_119 ?_
  obtain ⟨p11, ep11, h⟩ := sv_ob h
  refine sv_wVi (nn := 0) hC (met_xdX5_next hC.F z K hz 0 (by decide) σ ep11) (17 + 0) 6 (sx_q (q := 0) (by decide)) rfl rfl (lw_V q874 q875 q876 q58 q877) (by decide +kernel) ⟨by decide, by decide⟩ ⟨rfl, rfl⟩ rfl rfl (Nat.le_of_ble_eq_true rfl) ⟨Nat.le_refl 0, Nat.le_refl 0⟩ dX0_bestOf_122 ?_
  refine sv_istore hC dX0_bestOf_125 (by decide) (lvq := [(4, .int p11.1), (0, .ref (z.1 0)), (1, .int x1), (2, .int x2), (3, .int x3)]) rfl ?_
  refine sv_goto hC (tgt := 25) dX0_bestOf_127 (by decide) ?_
  refine sv_loc [1, 2, 3, 4, 0] (lvq := [(0, .ref (z.1 0)), (1, .int x1), (2, .int x2), (3, .int x3), (4, .int p11.1)]) rfl ?_
  exact hk_25 x1 x2 x3 p11.1 p11.2 h
set_option maxHeartbeats 2000000 in
theorem wk_xdX0_bestOf_98 {Γ : sv_G} (z : XZ) (K : XK) (hz : SP (sg_s0 Γ) (sg_dA Γ) z K) (hC : sv_C Γ cX0_bestOf 6 RX0 (some .int) rm_X0_bestOf) {r0 : Int32 × MSt} (hQ : sv_RQ Γ (sv_pI r0.1 (SW (sg_dA Γ) z K r0.2)) 0 0) (rk_25 : Int32 → Int32 → Int32 → Int32 → MSt → Option (Int32 × MSt)) (hk_25 : ∀ (x1 : Int32) (x2 : Int32) (x3 : Int32) (x4 : Int32) (σ : MSt), rk_25 x1 x2 x3 x4 σ = some r0 → sv_V Γ (SW (sg_dA Γ) z K σ) 0 0 25 [(0, .ref (z.1 0)), (1, .int x1), (2, .int x2), (3, .int x3), (4, .int x4)] []) (x1 : Int32) (x2 : Int32) (x5 : Int32) (σ : MSt)  (h : xdX0_bestOf_98 K rk_25 x1 x2 x5 σ = some r0) : sv_V Γ (SW (sg_dA Γ) z K σ) 0 0 98 [(0, .ref (z.1 0)), (1, .int x1), (2, .int x2), (5, .int x5)] [] := by
  unfold xdX0_bestOf_98 at h
  refine sv_iload hC dX0_bestOf_98 3 rfl ?_
  refine sv_istore_n hC dX0_bestOf_100 rfl (by decide) (lvq := [(3, .int x5), (0, .ref (z.1 0)), (1, .int x1), (2, .int x2), (5, .int x5)]) rfl ?_
  refine sv_aload_n hC dX0_bestOf_101 1 rfl rfl ?_
  refine sv_get hC in_X0 0 (sx_at (by decide)) rfl 15 (by decide) q244 rfl (v := .ref (z.1 17)) rfl dX0_bestOf_102 ?_
  refine sv_get hC in_X5 (17 + 0) (sx_q (q := 0) (by decide)) rfl 0 (by decide) q189 rfl (v := .ref (z.1 (106 + 0 + 20))) rfl dX0_bestOf_105 ?_
  refine sv_iconst hC (v := 0) dX0_bestOf_108 (by decide) ?_
  refine sv_aload_n hC dX0_bestOf_109 1 rfl rfl ?_
  refine sv_get hC in_X0 0 (sx_at (by decide)) rfl 17 (by decide) q246 rfl (v := .ref (z.1 128)) rfl dX0_bestOf_110 ?_
  refine sv_iconst hC (v := 0) dX0_bestOf_113 (by decide) ?_
  refine sv_iconst hC (v := 4) dX0_bestOf_114 (by decide) ?_
  obtain ⟨gd, h⟩ := sv_gd h
  refine sv_copy hC q884 q426 q425 q70 (106 + 0 + 20) (108 + 20) 1 (sx_a (XA_st (q := 0) (by decide))) (sx_a XA_bs) rfl rfl (by decide) (by decide) (by decide) (by decide) (by decide) (xs_bs gd) (X' := SW (sg_dA Γ) z K (ms_w σ 108 (va_cpy (σ.2 (106 + 0)) (σ.2 108) (0 : Int32).toNatClampNeg (0 : Int32).toNatClampNeg (4 : Int32).toNatClampNeg))) (sx_aw XA_bs _) (by decide) (Nat.le_of_ble_eq_true rfl) dX0_bestOf_115 ?_
  refine sv_loc [1, 2, 3, 0] (lvq := [(0, .ref (z.1 0)), (1, .int x1), (2, .int x2), (3, .int x5)]) rfl ?_
  exact wk_xdX0_bestOf_118 z K hz hC hQ rk_25 hk_25 x1 x2 x5 (ms_w σ 108 (va_cpy (σ.2 (106 + 0)) (σ.2 108) (0 : Int32).toNatClampNeg (0 : Int32).toNatClampNeg (4 : Int32).toNatClampNeg)) h
set_option maxHeartbeats 2000000 in
theorem wk_xdX0_bestOf_84 {Γ : sv_G} (z : XZ) (K : XK) (hz : SP (sg_s0 Γ) (sg_dA Γ) z K) (hC : sv_C Γ cX0_bestOf 6 RX0 (some .int) rm_X0_bestOf) {r0 : Int32 × MSt} (hQ : sv_RQ Γ (sv_pI r0.1 (SW (sg_dA Γ) z K r0.2)) 0 0) (rk_25 : Int32 → Int32 → Int32 → Int32 → MSt → Option (Int32 × MSt)) (hk_25 : ∀ (x1 : Int32) (x2 : Int32) (x3 : Int32) (x4 : Int32) (σ : MSt), rk_25 x1 x2 x3 x4 σ = some r0 → sv_V Γ (SW (sg_dA Γ) z K σ) 0 0 25 [(0, .ref (z.1 0)), (1, .int x1), (2, .int x2), (3, .int x3), (4, .int x4)] []) (x1 : Int32) (x2 : Int32) (x3 : Int32) (t0 : Int32) (t1 : Int32) (σ : MSt)  (h : xdX0_bestOf_84 K rk_25 x1 x2 x3 t0 t1 σ = some r0) : sv_V Γ (SW (sg_dA Γ) z K σ) 0 0 84 [(0, .ref (z.1 0)), (1, .int x1), (2, .int x2), (3, .int x3)] [.int t1, .int t0] := by
  unfold xdX0_bestOf_84 at h
  refine sv_iadd hC dX0_bestOf_84 ?_
  refine sv_istore hC dX0_bestOf_85 (by decide) (lvq := [(5, .int (t0 + t1)), (0, .ref (z.1 0)), (1, .int x1), (2, .int x2), (3, .int x3)]) rfl ?_
  refine sv_iload_n hC dX0_bestOf_87 4 rfl rfl ?_
  refine sv_iconst hC (v := (-1)) dX0_bestOf_88 (by decide) ?_
  refine sv_icmp_eq hC (tgt := 98) dX0_bestOf_89 (by decide) (fun c9 => ?_) (fun c9 => ?_)
  · have h := sv_it c9 h
    refine sv_loc [1, 2, 3, 0] (lvq := [(0, .ref (z.1 0)), (1, .int x1), (2, .int x2), (5, .int (t0 + t1))]) rfl ?_
    exact wk_xdX0_bestOf_98 z K hz hC hQ rk_25 hk_25 x1 x2 (t0 + t1) σ h
  · have h := sv_if c9 h
    refine sv_iload hC dX0_bestOf_92 0 rfl ?_
    refine sv_iload_n hC dX0_bestOf_94 4 rfl rfl ?_
    refine sv_icmp_ge hC (tgt := 118) dX0_bestOf_95 (by decide) (fun c10 => ?_) (fun c10 => ?_)
    · have h := sv_it c10 h
      refine sv_loc [1, 2, 3, 4] (lvq := [(0, .ref (z.1 0)), (1, .int x1), (2, .int x2), (3, .int x3)]) rfl ?_
      exact wk_xdX0_bestOf_118 z K hz hC hQ rk_25 hk_25 x1 x2 x3 σ h
    · have h := sv_if c10 h
      refine sv_loc [1, 2, 3, 0] (lvq := [(0, .ref (z.1 0)), (1, .int x1), (2, .int x2), (5, .int (t0 + t1))]) rfl ?_
      exact wk_xdX0_bestOf_98 z K hz hC hQ rk_25 hk_25 x1 x2 (t0 + t1) σ h
set_option maxHeartbeats 2000000 in
theorem wk_xdX0_bestOf_25b {Γ : sv_G} (z : XZ) (K : XK) (hz : SP (sg_s0 Γ) (sg_dA Γ) z K) (hC : sv_C Γ cX0_bestOf 6 RX0 (some .int) rm_X0_bestOf) {r0 : Int32 × MSt} (hQ : sv_RQ Γ (sv_pI r0.1 (SW (sg_dA Γ) z K r0.2)) 0 0)  (rk_25 : Int32 → Int32 → Int32 → Int32 → MSt → Option (Int32 × MSt)) (hk_25 : ∀ (x1 : Int32) (x2 : Int32) (x3 : Int32) (x4 : Int32) (σ : MSt), rk_25 x1 x2 x3 x4 σ = some r0 → sv_V Γ (SW (sg_dA Γ) z K σ) 0 0 25 [(0, .ref (z.1 0)), (1, .int x1), (2, .int x2), (3, .int x3), (4, .int x4)] []) (x1 : Int32) (x2 : Int32) (x3 : Int32) (x4 : Int32) (σ : MSt)  (h : xdX0_bestOf_25b K rk_25 x1 x2 x3 x4 σ = some r0) : sv_V Γ (SW (sg_dA Γ) z K σ) 0 0 25 [(0, .ref (z.1 0)), (1, .int x1), (2, .int x2), (3, .int x3), (4, .int x4)] [] := by
  unfold xdX0_bestOf_25b at h
  refine sv_iload hC dX0_bestOf_25 4 rfl ?_
  refine sv_if_eq hC (tgt := 130) dX0_bestOf_27 (by decide) (fun c3 => ?_) (fun c3 => ?_)
  · have h := sv_it c3 h
    refine sv_iload_n hC dX0_bestOf_130 3 rfl rfl ?_
    exact sv_iret hC hQ dX0_bestOf_131 (by have e := Option.some.inj h; subst e; exact ⟨rfl, rfl⟩)
  · have h := sv_if c3 h
    refine sv_aload_n hC dX0_bestOf_30 0 rfl rfl ?_
    refine sv_get hC in_X0 0 (sx_at (by decide)) rfl 11 (by decide) q238 rfl (v := .ref (z.1 12)) rfl dX0_bestOf_31 ?_
    refine sv_aload_n hC dX0_bestOf_34 0 rfl rfl ?_
    refine sv_get hC in_X0 0 (sx_at (by decide)) rfl 10 (by decide) q237 rfl (v := .ref (z.1 11)) rfl dX0_bestOf_35 ?_
    obtain ⟨s4, es4, h⟩ := sv_ob h
    refine sv_wVv (nn := 1) hC (met_xdX4_copy hC.F z K hz 1 0 (by decide) (by decide) σ es4) (11 + 1) 5 (sx_w (w := 1) (by decide)) rfl rfl (lw_V q863 q864 q865 q57 q866) (by decide +kernel) ⟨by decide, by decide⟩ ⟨rfl, rfl⟩ rfl rfl (Nat.le_of_ble_eq_true rfl) ⟨Nat.le_refl 0, Nat.le_refl 0⟩ dX0_bestOf_38 ?_
    refine sv_aload_n hC dX0_bestOf_41 0 rfl rfl ?_
    refine sv_get hC in_X0 0 (sx_at (by decide)) rfl 11 (by decide) q238 rfl (v := .ref (z.1 12)) rfl dX0_bestOf_42 ?_
    refine sv_aload_n hC dX0_bestOf_45 0 rfl rfl ?_
    refine sv_get hC in_X0 0 (sx_at (by decide)) rfl 15 (by decide) q244 rfl (v := .ref (z.1 17)) rfl dX0_bestOf_46 ?_
    refine sv_get hC in_X5 (17 + 0) (sx_q (q := 0) (by decide)) rfl 0 (by decide) q189 rfl (v := .ref (z.1 (106 + 0 + 20))) rfl dX0_bestOf_49 ?_
    refine sv_aload_n hC dX0_bestOf_52 0 rfl rfl ?_
    refine sv_get hC in_X0 0 (sx_at (by decide)) rfl 8 (by decide) q235 rfl (v := .ref (z.1 5)) rfl dX0_bestOf_53 ?_
    refine sv_get hC in_X3 (5 + 0) (sx_p (p := 0) (by decide)) rfl 1 (by decide) q138 rfl (v := .ref (z.1 (8 + 2 * 0))) rfl dX0_bestOf_56 ?_
    refine sv_iload_n hC dX0_bestOf_59 1 rfl rfl ?_
    obtain ⟨j5, ej5, h⟩ := sv_ob h
    refine sv_aldr hC (8 + 2 * 0) 7 (sx_pr (p := 0) (by decide)) rfl rfl (j := j5) (b := z.1 (j5 + (42 + 42 * 0) + 20)) ej5 rfl dX0_bestOf_60 ?_
    obtain ⟨p6, ep6, h⟩ := sv_ob h
    refine sv_wVi (nn := 2) hC (met_xdX4_go hC.F z K hz 1 (106 + 0) (j5 + (42 + 42 * 0)) (by decide) (XA_st (q := 0) (by decide)) (XA_pr (p := 0) (d := j5) (by decide) (sv_ixl ej5)) s4 ep6) (11 + 1) 5 (sx_w (w := 1) (by decide)) rfl rfl (lw_V q868 q794 q795 q57 q796) (by decide +kernel) ⟨by decide, by decide⟩ ⟨rfl, rfl⟩ rfl rfl (Nat.le_of_ble_eq_true rfl) ⟨Nat.le_refl 0, Nat.le_refl 0⟩ dX0_bestOf_61 ?_
    refine sv_istore hC dX0_bestOf_64 (by decide) (lvq := [(5, .int p6.1), (0, .ref (z.1 0)), (1, .int x1), (2, .int x2), (3, .int x3), (4, .int x4)]) rfl ?_
    refine sv_iload hC dX0_bestOf_66 0 rfl ?_
    refine sv_iload_n hC dX0_bestOf_68 3 rfl rfl ?_
    refine sv_iconst hC (v := 2) dX0_bestOf_69 (by decide) ?_
    refine sv_icmp_ne hC (tgt := 83) dX0_bestOf_70 (by decide) (fun c7 => ?_) (fun c7 => ?_)
    · have h := sv_if c7 h
      refine sv_iconst hC (v := 0) dX0_bestOf_83 (by decide) ?_
      refine sv_loc [1, 2, 3, 4] (lvq := [(0, .ref (z.1 0)), (1, .int x1), (2, .int x2), (3, .int x3)]) rfl ?_
      exact wk_xdX0_bestOf_84 z K hz hC hQ rk_25 hk_25 x1 x2 x3 p6.1 0 p6.2 h
    · have h := sv_it c7 h
      refine sv_aload_n hC dX0_bestOf_73 1 rfl rfl ?_
      refine sv_iload_n hC dX0_bestOf_74 2 rfl rfl ?_
      refine sv_iconst hC (v := 1) dX0_bestOf_75 (by decide) ?_
      refine sv_iadd hC dX0_bestOf_76 ?_
      obtain ⟨p8, ep8, h⟩ := sv_ob h
      refine sv_wVi (nn := 1) hC (met_xdX0_bestNext hC.F z K hz (x1 + 1) p6.2 ep8) 0 1 (sx_at (by decide)) rfl rfl (lw_V q869 q871 qs16 q52 q872) (by decide +kernel) ⟨by decide, by decide⟩ ⟨rfl, rfl⟩ rfl rfl (Nat.le_of_ble_eq_true rfl) ⟨Nat.le_refl 0, Nat.le_refl 0⟩ dX0_bestOf_77 ?_
      refine sv_goto hC (tgt := 84) dX0_bestOf_80 (by decide) ?_
      refine sv_loc [1, 2, 3, 4] (lvq := [(0, .ref (z.1 0)), (1, .int x1), (2, .int x2), (3, .int x3)]) rfl ?_
      exact wk_xdX0_bestOf_84 z K hz hC hQ rk_25 hk_25 x1 x2 x3 p6.1 p8.1 p8.2 h
set_option maxHeartbeats 2000000 in
theorem wk_xdX0_bestOf_25 {Γ : sv_G} (z : XZ) (K : XK) (hz : SP (sg_s0 Γ) (sg_dA Γ) z K) (hC : sv_C Γ cX0_bestOf 6 RX0 (some .int) rm_X0_bestOf) {r0 : Int32 × MSt} (hQ : sv_RQ Γ (sv_pI r0.1 (SW (sg_dA Γ) z K r0.2)) 0 0)  : ∀ (n : Nat) (x1 : Int32) (x2 : Int32) (x3 : Int32) (x4 : Int32) (σ : MSt)  (h : xdX0_bestOf_25 K n x1 x2 x3 x4 σ = some r0), sv_V Γ (SW (sg_dA Γ) z K σ) 0 0 25 [(0, .ref (z.1 0)), (1, .int x1), (2, .int x2), (3, .int x3), (4, .int x4)] [] := by
  intro n
  induction n with
  | zero => intro x1 x2 x3 x4 σ h; cases h
  | succ n ih => intro x1 x2 x3 x4 σ h; exact wk_xdX0_bestOf_25b z K hz hC hQ (xdX0_bestOf_25 K n) ih x1 x2 x3 x4 σ h
set_option maxHeartbeats 2000000 in
theorem wk_xdX0_bestOf {Γ : sv_G} (z : XZ) (K : XK) (hz : SP (sg_s0 Γ) (sg_dA Γ) z K) (hC : sv_C Γ cX0_bestOf 6 RX0 (some .int) rm_X0_bestOf) {r0 : Int32 × MSt} (hQ : sv_RQ Γ (sv_pI r0.1 (SW (sg_dA Γ) z K r0.2)) 0 0) (x1 : Int32) (x2 : Int32) (σ : MSt) (h : xdX0_bestOf K x1 x2 σ = some r0) : sv_V Γ (SW (sg_dA Γ) z K σ) 0 0 0 [(0, .ref (z.1 0)), (1, .int x1), (2, .int x2)] [] := by
  unfold xdX0_bestOf at h
  refine sv_aload_n hC dX0_bestOf_0 0 rfl rfl ?_
  refine sv_get hC in_X0 0 (sx_at (by decide)) rfl 10 (by decide) q237 rfl (v := .ref (z.1 11)) rfl dX0_bestOf_1 ?_
  refine sv_aload_n hC dX0_bestOf_4 0 rfl rfl ?_
  refine sv_get hC in_X0 0 (sx_at (by decide)) rfl 8 (by decide) q235 rfl (v := .ref (z.1 5)) rfl dX0_bestOf_5 ?_
  refine sv_iload_n hC dX0_bestOf_8 1 rfl rfl ?_
  obtain ⟨p1, ep1, h⟩ := sv_ob h
  refine sv_wVi (nn := 2) hC (met_xdX4_run hC.F z K hz 0 0 (by decide) (by decide) x1 σ ep1) (11 + 0) 5 (sx_w (w := 0) (by decide)) rfl rfl (lw_V q779 q780 q781 q57 q782) (by decide +kernel) ⟨by decide, by decide⟩ ⟨rfl, rfl⟩ rfl rfl (Nat.le_of_ble_eq_true rfl) ⟨Nat.le_refl 0, Nat.le_refl 0⟩ dX0_bestOf_9 ?_
  refine sv_pop hC dX0_bestOf_12 rfl ?_
  refine sv_iconst hC (v := (-1)) dX0_bestOf_13 (by decide) ?_
  refine sv_istore_n hC dX0_bestOf_14 rfl (by decide) (lvq := [(3, .int (-1)), (0, .ref (z.1 0)), (1, .int x1), (2, .int x2)]) rfl ?_
  refine sv_aload_n hC dX0_bestOf_15 1 rfl rfl ?_
  refine sv_get hC in_X0 0 (sx_at (by decide)) rfl 15 (by decide) q244 rfl (v := .ref (z.1 17)) rfl dX0_bestOf_16 ?_
  obtain ⟨s2, es2, h⟩ := sv_ob h
  refine sv_wVv (nn := 0) hC (met_xdX5_first hC.F z K hz 0 (by decide) p1.2 es2) (17 + 0) 6 (sx_q (q := 0) (by decide)) rfl rfl (lw_V q858 q859 q860 q58 q861) (by decide +kernel) ⟨by decide, by decide⟩ ⟨rfl, rfl⟩ rfl rfl (Nat.le_of_ble_eq_true rfl) ⟨Nat.le_refl 0, Nat.le_refl 0⟩ dX0_bestOf_19 ?_
  refine sv_iconst hC (v := 1) dX0_bestOf_22 (by decide) ?_
  refine sv_istore hC dX0_bestOf_23 (by decide) (lvq := [(4, .int 1), (3, .int (-1)), (0, .ref (z.1 0)), (1, .int x1), (2, .int x2)]) rfl ?_
  refine sv_loc [2, 3, 4, 1, 0] (lvq := [(0, .ref (z.1 0)), (1, .int x1), (2, .int x2), (3, .int (-1)), (4, .int 1)]) rfl ?_
  exact wk_xdX0_bestOf_25 z K hz hC hQ sv_FU x1 x2 (-1) 1 s2 h
set_option maxHeartbeats 2000000 in
theorem met_xdX0_bestOf {l : Launch} {s0 : State} {D : va_G} {dA : Nat → ClassId} (hF : sv_F s0 D dA) (z : XZ) (K : XK) (hz : SP s0 dA z K) (x1 : Int32) (x2 : Int32) (σ : MSt) {r0 : Int32 × MSt} (h : xdX0_bestOf K x1 x2 σ = some r0) : sv_M l s0 D yX0_bestOf cX0_bestOf 6 (some .int) rm_X0_bestOf [.ref (z.1 0), .int x1, .int x2] (SW dA z K σ) (sv_pI r0.1 (SW dA z K r0.2)) :=
  sv_met hF (by decide) (Nat.le_of_ble_eq_true rfl) (fun Γ hC hQ hmn e1 e2 e3 e4 => by
    subst e1 e2 e3 e4
    exact wk_xdX0_bestOf z K hz hC hQ x1 x2 σ h)
set_option maxHeartbeats 2000000 in
theorem wk_xdX0_best {Γ : sv_G} (z : XZ) (K : XK) (hz : SP (sg_s0 Γ) (sg_dA Γ) z K) (hC : sv_C Γ cX0_best 5 RX0 (some .int) rm_X0_best) {r0 : Int32 × MSt} (hQ : sv_RQ Γ (sv_pI r0.1 (SW (sg_dA Γ) z K r0.2)) 0 0) (x1 : Int32) (x2 : Int32) (x3 : Int32) (σ : MSt) (h : xdX0_best K x1 x2 x3 σ = some r0) : sv_V Γ (SW (sg_dA Γ) z K σ) 0 0 0 [(0, .ref (z.1 0)), (1, .int x1), (2, .int x2), (3, .int x3)] [] := by
  unfold xdX0_best at h
  refine sv_aload_n hC dX0_best_0 0 rfl rfl ?_
  refine sv_iload_n hC dX0_best_1 1 rfl rfl ?_
  obtain ⟨r1, er1, h⟩ := sv_ob h
  refine sv_wVi (nn := 1) hC (met_xdX0_isDay hC.F z K hz σ x1 er1) 0 1 (sx_at (by decide)) rfl rfl (lw_V q775 q777 qs9 q52 q778) (by decide +kernel) ⟨by decide, by decide⟩ ⟨rfl, rfl⟩ rfl rfl (Nat.le_of_ble_eq_true rfl) ⟨Nat.le_refl 0, Nat.le_refl 0⟩ dX0_best_2 ?_
  refine sv_if_ne hC (tgt := 11) dX0_best_5 (by decide) (fun c2 => ?_) (fun c2 => ?_)
  · have h := sv_if c2 h
    refine sv_iload_n hC dX0_best_11 2 rfl rfl ?_
    refine sv_i2l hC dX0_best_12 ?_
    refine sv_lconst hC (v := 1) dX0_best_13 (by decide) ?_
    refine sv_ldc2 hC dX0_best_14 q853 ?_
    obtain ⟨r3, er3, h⟩ := sv_ob h
    refine sv_pSi (nn := 3) hC (met_xdX0_in hC.F x2.toInt64 1 2 er3) (lw_S q292 q293 q52 q294) (by decide +kernel) ⟨by decide, by decide⟩ ⟨rfl, rfl⟩ rfl rfl (Nat.le_of_ble_eq_true rfl) ⟨Nat.le_refl 0, Nat.le_refl 0⟩ dX0_best_17 ?_
    refine sv_if_eq hC (tgt := 47) dX0_best_20 (by decide) (fun c4 => ?_) (fun c4 => ?_)
    · have h := sv_it c4 h
      refine sv_bipush hC (v := (-3)) dX0_best_47 (by decide) ?_
      exact sv_iret hC hQ dX0_best_49 (by have e := Option.some.inj h; subst e; exact ⟨rfl, rfl⟩)
    · have h := sv_if c4 h
      refine sv_iload_n hC dX0_best_23 1 rfl rfl ?_
      refine sv_iload_n hC dX0_best_24 2 rfl rfl ?_
      refine sv_iadd hC dX0_best_25 ?_
      refine sv_aload_n hC dX0_best_26 0 rfl rfl ?_
      refine sv_get hC in_X0 0 (sx_at (by decide)) rfl 7 (by decide) q234 rfl (v := .int (σ.1 7)) rfl dX0_best_27 ?_
      refine sv_icmp_gt hC (tgt := 47) dX0_best_30 (by decide) (fun c5 => ?_) (fun c5 => ?_)
      · have h := sv_it c5 h
        refine sv_bipush hC (v := (-3)) dX0_best_47 (by decide) ?_
        exact sv_iret hC hQ dX0_best_49 (by have e := Option.some.inj h; subst e; exact ⟨rfl, rfl⟩)
      · have h := sv_if c5 h
        refine sv_iload_n hC dX0_best_33 3 rfl rfl ?_
        refine sv_i2l hC dX0_best_34 ?_
        refine sv_ldc2 hC dX0_best_35 q766 ?_
        refine sv_ldc2 hC dX0_best_38 q740 ?_
        obtain ⟨r6, er6, h⟩ := sv_ob h
        refine sv_pSi (nn := 3) hC (met_xdX0_in hC.F x3.toInt64 (-1) 3 er6) (lw_S q292 q293 q52 q294) (by decide +kernel) ⟨by decide, by decide⟩ ⟨rfl, rfl⟩ rfl rfl (Nat.le_of_ble_eq_true rfl) ⟨Nat.le_refl 0, Nat.le_refl 0⟩ dX0_best_41 ?_
        refine sv_if_ne hC (tgt := 50) dX0_best_44 (by decide) (fun c7 => ?_) (fun c7 => ?_)
        · have h := sv_if c7 h
          refine sv_aload_n hC dX0_best_50 0 rfl rfl ?_
          refine sv_iload_n hC dX0_best_51 1 rfl rfl ?_
          refine sv_iload_n hC dX0_best_52 2 rfl rfl ?_
          obtain ⟨p8, ep8, h⟩ := sv_ob h
          refine sv_wVi (nn := 2) hC (met_xdX0_bestOf hC.F z K hz x1 x2 σ ep8) 0 1 (sx_at (by decide)) rfl rfl (lw_V q854 q856 qs15 q52 q857) (by decide +kernel) ⟨by decide, by decide⟩ ⟨rfl, rfl⟩ rfl rfl (Nat.le_of_ble_eq_true rfl) ⟨Nat.le_refl 0, Nat.le_refl 0⟩ dX0_best_53 ?_
          refine sv_istore hC dX0_best_56 (by decide) (lvq := [(4, .int p8.1), (0, .ref (z.1 0)), (1, .int x1), (2, .int x2), (3, .int x3)]) rfl ?_
          refine sv_iload_n hC dX0_best_58 4 rfl rfl ?_
          refine sv_iconst hC (v := (-1)) dX0_best_59 (by decide) ?_
          refine sv_icmp_ne hC (tgt := 68) dX0_best_60 (by decide) (fun c9 => ?_) (fun c9 => ?_)
          · have h := sv_if c9 h
            refine sv_aload_n hC dX0_best_68 1 rfl rfl ?_
            refine sv_get hC in_X0 0 (sx_at (by decide)) rfl 17 (by decide) q246 rfl (v := .ref (z.1 128)) rfl dX0_best_69 ?_
            refine sv_iload_n hC dX0_best_72 4 rfl rfl ?_
            obtain ⟨j10, ej10, h⟩ := sv_ob h
            refine sv_bald hC (108 + 20) (f := p8.2.2 108) (sx_a XA_bs) rfl (j := j10) ej10 dX0_best_73 ?_
            exact sv_iret hC hQ dX0_best_74 (by have e := Option.some.inj h; subst e; exact ⟨rfl, rfl⟩)
          · have h := sv_it c9 h
            refine sv_iload hC dX0_best_63 0 rfl ?_
            refine sv_goto hC (tgt := 74) dX0_best_65 (by decide) ?_
            exact sv_iret hC hQ dX0_best_74 (by have e := Option.some.inj h; subst e; exact ⟨rfl, rfl⟩)
        · have h := sv_it c7 h
          refine sv_bipush hC (v := (-3)) dX0_best_47 (by decide) ?_
          exact sv_iret hC hQ dX0_best_49 (by have e := Option.some.inj h; subst e; exact ⟨rfl, rfl⟩)
  · have h := sv_it c2 h
    refine sv_bipush hC (v := (-2)) dX0_best_8 (by decide) ?_
    exact sv_iret hC hQ dX0_best_10 (by have e := Option.some.inj h; subst e; exact ⟨rfl, rfl⟩)
set_option maxHeartbeats 2000000 in
theorem met_xdX0_best {l : Launch} {s0 : State} {D : va_G} {dA : Nat → ClassId} (hF : sv_F s0 D dA) (z : XZ) (K : XK) (hz : SP s0 dA z K) (x1 : Int32) (x2 : Int32) (x3 : Int32) (σ : MSt) {r0 : Int32 × MSt} (h : xdX0_best K x1 x2 x3 σ = some r0) : sv_M l s0 D yX0_best cX0_best 5 (some .int) rm_X0_best [.ref (z.1 0), .int x1, .int x2, .int x3] (SW dA z K σ) (sv_pI r0.1 (SW dA z K r0.2)) :=
  sv_met hF (by decide) (Nat.le_of_ble_eq_true rfl) (fun Γ hC hQ hmn e1 e2 e3 e4 => by
    subst e1 e2 e3 e4
    exact wk_xdX0_best z K hz hC hQ x1 x2 x3 σ h)
set_option maxHeartbeats 2000000 in
theorem wk_xdX0_seldom_39b {Γ : sv_G} (z : XZ) (K : XK) (hz : SP (sg_s0 Γ) (sg_dA Γ) z K) (σ : MSt) (hC : sv_C Γ cX0_seldom 5 RX0 (some .int) rm_X0_seldom) {r0 : Int32} (hQ : sv_RQ Γ (sv_pI r0 (SW (sg_dA Γ) z K σ)) 0 0)  (rk_39 : Int32 → Int32 → Int32 → Int32 → Option Int32) (hk_39 : ∀ (x1 : Int32) (x2 : Int32) (x3 : Int32) (x4 : Int32), rk_39 x1 x2 x3 x4 = some r0 → sv_V Γ (SW (sg_dA Γ) z K σ) 0 0 39 [(0, .ref (z.1 0)), (1, .int x1), (2, .int x2), (3, .int x3), (4, .int x4)] []) (x1 : Int32) (x2 : Int32) (x3 : Int32) (x4 : Int32)  (h : xdX0_seldom_39b K σ rk_39 x1 x2 x3 x4 = some r0) : sv_V Γ (SW (sg_dA Γ) z K σ) 0 0 39 [(0, .ref (z.1 0)), (1, .int x1), (2, .int x2), (3, .int x3), (4, .int x4)] [] := by
  unfold xdX0_seldom_39b at h
  refine sv_iload_n hC dX0_seldom_39 3 rfl rfl ?_
  refine sv_bipush hC (v := 99) dX0_seldom_40 (by decide) ?_
  refine sv_icmp_ge hC (tgt := 79) dX0_seldom_42 (by decide) (fun c6 => ?_) (fun c6 => ?_)
  · have h := sv_it c6 h
    refine sv_iload_n hC dX0_seldom_79 3 rfl rfl ?_
    exact sv_iret hC hQ dX0_seldom_80 (by have e := Option.some.inj h; subst e; exact ⟨rfl, rfl⟩)
  · have h := sv_if c6 h
    refine sv_iload hC dX0_seldom_45 4 rfl ?_
    refine sv_iload_n hC dX0_seldom_47 2 rfl rfl ?_
    refine sv_icmp_lt hC (tgt := 79) dX0_seldom_48 (by decide) (fun c7 => ?_) (fun c7 => ?_)
    · have h := sv_it c7 h
      refine sv_iload_n hC dX0_seldom_79 3 rfl rfl ?_
      exact sv_iret hC hQ dX0_seldom_80 (by have e := Option.some.inj h; subst e; exact ⟨rfl, rfl⟩)
    · have h := sv_if c7 h
      refine sv_iinc hC (v := x3 + 1) dX0_seldom_51 3 rfl rfl (by decide) (lvq := [(3, .int (x3 + 1)), (0, .ref (z.1 0)), (1, .int x1), (2, .int x2), (4, .int x4)]) rfl ?_
      refine sv_aload_n hC dX0_seldom_54 1 rfl rfl ?_
      refine sv_get hC in_X0 0 (sx_at (by decide)) rfl 2 (by decide) q227 rfl (v := .ref (z.1 3)) rfl dX0_seldom_55 ?_
      refine sv_iload_n hC dX0_seldom_58 2 rfl rfl ?_
      obtain ⟨j8, ej8, h⟩ := sv_ob h
      refine sv_aldq hC 3 5 (sx_at (by decide)) rfl (j := j8) ej8 dX0_seldom_59 ?_
      refine sv_iload hC dX0_seldom_60 4 rfl ?_
      refine sv_aload_n hC dX0_seldom_62 1 rfl rfl ?_
      refine sv_get hC in_X0 0 (sx_at (by decide)) rfl 2 (by decide) q227 rfl (v := .ref (z.1 3)) rfl dX0_seldom_63 ?_
      refine sv_iload_n hC dX0_seldom_66 2 rfl rfl ?_
      obtain ⟨j9, ej9, h⟩ := sv_ob h
      refine sv_aldq hC 3 5 (sx_at (by decide)) rfl (j := j9) ej9 dX0_seldom_67 ?_
      obtain ⟨v10, ev10, h⟩ := sv_ob h
      refine sx_cget hC hz ev10 1 (by decide) q115 rfl dX0_seldom_68 ?_
      obtain ⟨v12, ev12, h⟩ := sv_ob h
      obtain ⟨r11, er11, h⟩ := sv_ob h
      refine sx_pVC (nn := 2) hC hz ev12 (met_xdX1_after hC.F (z.2.2.2.1 j8) x4 v10.2 er11) (lw_V q890 q812 q813 q53 q819) (by decide +kernel) ⟨by decide, by decide⟩ ⟨rfl, rfl⟩ rfl rfl (Nat.le_of_ble_eq_true rfl) ⟨Nat.le_refl 0, Nat.le_refl 0⟩ dX0_seldom_71 ?_
      refine sv_istore hC dX0_seldom_74 (by decide) (lvq := [(4, .int r11), (3, .int (x3 + 1)), (0, .ref (z.1 0)), (1, .int x1), (2, .int x2)]) rfl ?_
      refine sv_goto hC (tgt := 39) dX0_seldom_76 (by decide) ?_
      refine sv_loc [2, 3, 4, 1, 0] (lvq := [(0, .ref (z.1 0)), (1, .int x1), (2, .int x2), (3, .int (x3 + 1)), (4, .int r11)]) rfl ?_
      exact hk_39 x1 x2 (x3 + 1) r11 h
set_option maxHeartbeats 2000000 in
theorem wk_xdX0_seldom_39 {Γ : sv_G} (z : XZ) (K : XK) (hz : SP (sg_s0 Γ) (sg_dA Γ) z K) (σ : MSt) (hC : sv_C Γ cX0_seldom 5 RX0 (some .int) rm_X0_seldom) {r0 : Int32} (hQ : sv_RQ Γ (sv_pI r0 (SW (sg_dA Γ) z K σ)) 0 0)  : ∀ (n : Nat) (x1 : Int32) (x2 : Int32) (x3 : Int32) (x4 : Int32)  (h : xdX0_seldom_39 K σ n x1 x2 x3 x4 = some r0), sv_V Γ (SW (sg_dA Γ) z K σ) 0 0 39 [(0, .ref (z.1 0)), (1, .int x1), (2, .int x2), (3, .int x3), (4, .int x4)] [] := by
  intro n
  induction n with
  | zero => intro x1 x2 x3 x4 h; cases h
  | succ n ih => intro x1 x2 x3 x4 h; exact wk_xdX0_seldom_39b z K hz σ hC hQ (xdX0_seldom_39 K σ n) ih x1 x2 x3 x4 h
set_option maxHeartbeats 2000000 in
theorem wk_xdX0_seldom {Γ : sv_G} (z : XZ) (K : XK) (hz : SP (sg_s0 Γ) (sg_dA Γ) z K) (σ : MSt) (hC : sv_C Γ cX0_seldom 5 RX0 (some .int) rm_X0_seldom) {r0 : Int32} (hQ : sv_RQ Γ (sv_pI r0 (SW (sg_dA Γ) z K σ)) 0 0) (x1 : Int32) (x2 : Int32) (h : xdX0_seldom K σ x1 x2 = some r0) : sv_V Γ (SW (sg_dA Γ) z K σ) 0 0 0 [(0, .ref (z.1 0)), (1, .int x1), (2, .int x2)] [] := by
  unfold xdX0_seldom at h
  refine sv_aload_n hC dX0_seldom_0 0 rfl rfl ?_
  refine sv_iload_n hC dX0_seldom_1 1 rfl rfl ?_
  obtain ⟨r1, er1, h⟩ := sv_ob h
  refine sv_wVi (nn := 1) hC (met_xdX0_isCoat hC.F z K hz σ x1 er1) 0 1 (sx_at (by decide)) rfl rfl (lw_V q757 q759 qs8 q52 q760) (by decide +kernel) ⟨by decide, by decide⟩ ⟨rfl, rfl⟩ rfl rfl (Nat.le_of_ble_eq_true rfl) ⟨Nat.le_refl 0, Nat.le_refl 0⟩ dX0_seldom_2 ?_
  refine sv_if_ne hC (tgt := 11) dX0_seldom_5 (by decide) (fun c2 => ?_) (fun c2 => ?_)
  · have h := sv_if c2 h
    refine sv_iload_n hC dX0_seldom_11 2 rfl rfl ?_
    refine sv_i2l hC dX0_seldom_12 ?_
    refine sv_lconst hC (v := 1) dX0_seldom_13 (by decide) ?_
    refine sv_ldc2 hC dX0_seldom_14 q889 ?_
    obtain ⟨r3, er3, h⟩ := sv_ob h
    refine sv_pSi (nn := 3) hC (met_xdX0_in hC.F x2.toInt64 1 999 er3) (lw_S q292 q293 q52 q294) (by decide +kernel) ⟨by decide, by decide⟩ ⟨rfl, rfl⟩ rfl rfl (Nat.le_of_ble_eq_true rfl) ⟨Nat.le_refl 0, Nat.le_refl 0⟩ dX0_seldom_17 ?_
    refine sv_if_ne hC (tgt := 26) dX0_seldom_20 (by decide) (fun c4 => ?_) (fun c4 => ?_)
    · have h := sv_if c4 h
      refine sv_iconst hC (v := 0) dX0_seldom_26 (by decide) ?_
      refine sv_istore_n hC dX0_seldom_27 rfl (by decide) (lvq := [(3, .int 0), (0, .ref (z.1 0)), (1, .int x1), (2, .int x2)]) rfl ?_
      refine sv_aload_n hC dX0_seldom_28 1 rfl rfl ?_
      refine sv_get hC in_X0 0 (sx_at (by decide)) rfl 3 (by decide) q229 rfl (v := .ref (z.1 4)) rfl dX0_seldom_29 ?_
      refine sv_iconst hC (v := 0) dX0_seldom_32 (by decide) ?_
      refine sv_iconst hC (v := 0) dX0_seldom_33 (by decide) ?_
      obtain ⟨r5, er5, h⟩ := sv_ob h
      refine sv_wVO (nn := 2) hC (met_xdX2_after hC.F z K hz σ 0 0 er5) 4 3 (sx_at (by decide)) rfl rfl (lw_app (lw_in6 q890 q814 q812 q815 q816 q54) (lw_meth q817)) q819 (by decide +kernel) ⟨by decide, by decide⟩ ⟨rfl, rfl⟩ rfl rfl (Nat.le_of_ble_eq_true rfl) ⟨Nat.le_refl 0, Nat.le_refl 0⟩ dX0_seldom_34 ?_
      refine sv_istore hC dX0_seldom_37 (by decide) (lvq := [(4, .int r5), (3, .int 0), (0, .ref (z.1 0)), (1, .int x1), (2, .int x2)]) rfl ?_
      refine sv_loc [2, 3, 4, 1, 0] (lvq := [(0, .ref (z.1 0)), (1, .int x1), (2, .int x2), (3, .int 0), (4, .int r5)]) rfl ?_
      exact wk_xdX0_seldom_39 z K hz σ hC hQ sv_FU x1 x2 0 r5 h
    · have h := sv_it c4 h
      refine sv_bipush hC (v := (-3)) dX0_seldom_23 (by decide) ?_
      exact sv_iret hC hQ dX0_seldom_25 (by have e := Option.some.inj h; subst e; exact ⟨rfl, rfl⟩)
  · have h := sv_it c2 h
    refine sv_bipush hC (v := (-2)) dX0_seldom_8 (by decide) ?_
    exact sv_iret hC hQ dX0_seldom_10 (by have e := Option.some.inj h; subst e; exact ⟨rfl, rfl⟩)
set_option maxHeartbeats 2000000 in
theorem met_xdX0_seldom {l : Launch} {s0 : State} {D : va_G} {dA : Nat → ClassId} (hF : sv_F s0 D dA) (z : XZ) (K : XK) (hz : SP s0 dA z K) (σ : MSt) (x1 : Int32) (x2 : Int32) {r0 : Int32} (h : xdX0_seldom K σ x1 x2 = some r0) : sv_M l s0 D yX0_seldom cX0_seldom 5 (some .int) rm_X0_seldom [.ref (z.1 0), .int x1, .int x2] (SW dA z K σ) (sv_pI r0 (SW dA z K σ)) :=
  sv_met hF (by decide) (Nat.le_of_ble_eq_true rfl) (fun Γ hC hQ hmn e1 e2 e3 e4 => by
    subst e1 e2 e3 e4
    exact wk_xdX0_seldom z K hz σ hC hQ x1 x2 h)
set_option maxHeartbeats 2000000 in
theorem wk_xdX0_lasts_42b {Γ : sv_G} (z : XZ) (K : XK) (hz : SP (sg_s0 Γ) (sg_dA Γ) z K) (σ : MSt) (hC : sv_C Γ cX0_lasts 6 RX0 (some .int) rm_X0_lasts) {r0 : Int32} (hQ : sv_RQ Γ (sv_pI r0 (SW (sg_dA Γ) z K σ)) 0 0)  (rk_42 : Int32 → Nat → Int32 → Int32 → Option Int32) (hk_42 : ∀ (x2 : Int32) (o3 : Nat) (x4 : Int32) (x5 : Int32), rk_42 x2 o3 x4 x5 = some r0 → sv_V Γ (SW (sg_dA Γ) z K σ) 0 0 42 [(2, .int x2), (3, va_rf ((K.2.2.1 o3).map (fun _ => z.2.2.2.1 o3))), (4, .int x4), (5, .int x5)] []) (x2 : Int32) (o3 : Nat) (x4 : Int32) (x5 : Int32)  (h : xdX0_lasts_42b K σ rk_42 x2 o3 x4 x5 = some r0) : sv_V Γ (SW (sg_dA Γ) z K σ) 0 0 42 [(2, .int x2), (3, va_rf ((K.2.2.1 o3).map (fun _ => z.2.2.2.1 o3))), (4, .int x4), (5, .int x5)] [] := by
  unfold xdX0_lasts_42b at h
  refine sv_iload hC dX0_lasts_42 2 rfl ?_
  refine sv_iload_n hC dX0_lasts_44 0 rfl rfl ?_
  refine sv_icmp_lt hC (tgt := 75) dX0_lasts_45 (by decide) (fun c7 => ?_) (fun c7 => ?_)
  · have h := sv_it c7 h
    refine sv_iload hC dX0_lasts_75 3 rfl ?_
    exact sv_iret hC hQ dX0_lasts_77 (by have e := Option.some.inj h; subst e; exact ⟨rfl, rfl⟩)
  · have h := sv_if c7 h
    refine sv_aload_nO hC dX0_lasts_48 1 rfl rfl ?_
    obtain ⟨v8, ev8, h⟩ := sv_ob h
    refine sx_cget hC hz ev8 1 (by decide) q115 rfl dX0_lasts_49 ?_
    refine sv_if_ne hC (tgt := 57) dX0_lasts_52 (by decide) (fun c9 => ?_) (fun c9 => ?_)
    · have h := sv_if c9 h
      refine sv_aload_nO hC dX0_lasts_57 1 rfl rfl ?_
      refine sv_iload hC dX0_lasts_58 2 rfl ?_
      refine sv_aload_nO hC dX0_lasts_60 1 rfl rfl ?_
      obtain ⟨v10, ev10, h⟩ := sv_ob h
      refine sx_cget hC hz ev10 1 (by decide) q115 rfl dX0_lasts_61 ?_
      obtain ⟨v12, ev12, h⟩ := sv_ob h
      obtain ⟨r11, er11, h⟩ := sv_ob h
      refine sx_pVC (nn := 2) hC hz ev12 (met_xdX1_after hC.F (z.2.2.2.1 o3) x4 v10.2 er11) (lw_V q890 q812 q813 q53 q819) (by decide +kernel) ⟨by decide, by decide⟩ ⟨rfl, rfl⟩ rfl rfl (Nat.le_of_ble_eq_true rfl) ⟨Nat.le_refl 0, Nat.le_refl 0⟩ dX0_lasts_64 ?_
      refine sv_istore hC dX0_lasts_67 (by decide) (lvq := [(4, .int r11), (2, .int x2), (3, va_rf ((K.2.2.1 o3).map (fun _ => z.2.2.2.1 o3))), (5, .int x5)]) (by cases K.2.2.1 o3 <;> rfl) ?_
      refine sv_iinc hC (v := x5 + 1) dX0_lasts_69 3 rfl rfl (by decide) (lvq := [(5, .int (x5 + 1)), (4, .int r11), (2, .int x2), (3, va_rf ((K.2.2.1 o3).map (fun _ => z.2.2.2.1 o3)))]) rfl ?_
      refine sv_goto hC (tgt := 42) dX0_lasts_72 (by decide) ?_
      refine sv_loc [2, 3, 1, 0] (lvq := [(2, .int x2), (3, va_rf ((K.2.2.1 o3).map (fun _ => z.2.2.2.1 o3))), (4, .int r11), (5, .int (x5 + 1))]) rfl ?_
      exact hk_42 x2 o3 r11 (x5 + 1) h
    · have h := sv_it c9 h
      refine sv_iconst hC (v := (-1)) dX0_lasts_55 (by decide) ?_
      exact sv_iret hC hQ dX0_lasts_56 (by have e := Option.some.inj h; subst e; exact ⟨rfl, rfl⟩)
set_option maxHeartbeats 2000000 in
theorem wk_xdX0_lasts_42 {Γ : sv_G} (z : XZ) (K : XK) (hz : SP (sg_s0 Γ) (sg_dA Γ) z K) (σ : MSt) (hC : sv_C Γ cX0_lasts 6 RX0 (some .int) rm_X0_lasts) {r0 : Int32} (hQ : sv_RQ Γ (sv_pI r0 (SW (sg_dA Γ) z K σ)) 0 0)  : ∀ (n : Nat) (x2 : Int32) (o3 : Nat) (x4 : Int32) (x5 : Int32)  (h : xdX0_lasts_42 K σ n x2 o3 x4 x5 = some r0), sv_V Γ (SW (sg_dA Γ) z K σ) 0 0 42 [(2, .int x2), (3, va_rf ((K.2.2.1 o3).map (fun _ => z.2.2.2.1 o3))), (4, .int x4), (5, .int x5)] [] := by
  intro n
  induction n with
  | zero => intro x2 o3 x4 x5 h; cases h
  | succ n ih => intro x2 o3 x4 x5 h; exact wk_xdX0_lasts_42b z K hz σ hC hQ (xdX0_lasts_42 K σ n) ih x2 o3 x4 x5 h
set_option maxHeartbeats 2000000 in
theorem wk_xdX0_lasts {Γ : sv_G} (z : XZ) (K : XK) (hz : SP (sg_s0 Γ) (sg_dA Γ) z K) (σ : MSt) (hC : sv_C Γ cX0_lasts 6 RX0 (some .int) rm_X0_lasts) {r0 : Int32} (hQ : sv_RQ Γ (sv_pI r0 (SW (sg_dA Γ) z K σ)) 0 0) (x1 : Int32) (x2 : Int32) (h : xdX0_lasts K σ x1 x2 = some r0) : sv_V Γ (SW (sg_dA Γ) z K σ) 0 0 0 [(0, .ref (z.1 0)), (1, .int x1), (2, .int x2)] [] := by
  unfold xdX0_lasts at h
  refine sv_aload_n hC dX0_lasts_0 0 rfl rfl ?_
  refine sv_iload_n hC dX0_lasts_1 1 rfl rfl ?_
  obtain ⟨r1, er1, h⟩ := sv_ob h
  refine sv_wVi (nn := 1) hC (met_xdX0_isCoat hC.F z K hz σ x1 er1) 0 1 (sx_at (by decide)) rfl rfl (lw_V q757 q759 qs8 q52 q760) (by decide +kernel) ⟨by decide, by decide⟩ ⟨rfl, rfl⟩ rfl rfl (Nat.le_of_ble_eq_true rfl) ⟨Nat.le_refl 0, Nat.le_refl 0⟩ dX0_lasts_2 ?_
  refine sv_if_ne hC (tgt := 11) dX0_lasts_5 (by decide) (fun c2 => ?_) (fun c2 => ?_)
  · have h := sv_if c2 h
    refine sv_iload_n hC dX0_lasts_11 2 rfl rfl ?_
    refine sv_i2l hC dX0_lasts_12 ?_
    refine sv_lconst hC (v := 1) dX0_lasts_13 (by decide) ?_
    refine sv_ldc2 hC dX0_lasts_14 q889 ?_
    obtain ⟨r3, er3, h⟩ := sv_ob h
    refine sv_pSi (nn := 3) hC (met_xdX0_in hC.F x2.toInt64 1 999 er3) (lw_S q292 q293 q52 q294) (by decide +kernel) ⟨by decide, by decide⟩ ⟨rfl, rfl⟩ rfl rfl (Nat.le_of_ble_eq_true rfl) ⟨Nat.le_refl 0, Nat.le_refl 0⟩ dX0_lasts_17 ?_
    refine sv_if_ne hC (tgt := 26) dX0_lasts_20 (by decide) (fun c4 => ?_) (fun c4 => ?_)
    · have h := sv_if c4 h
      refine sv_aload_n hC dX0_lasts_26 0 rfl rfl ?_
      refine sv_get hC in_X0 0 (sx_at (by decide)) rfl 2 (by decide) q227 rfl (v := .ref (z.1 3)) rfl dX0_lasts_27 ?_
      refine sv_iload_n hC dX0_lasts_30 1 rfl rfl ?_
      obtain ⟨j5, ej5, h⟩ := sv_ob h
      refine sv_aldq hC 3 5 (sx_at (by decide)) rfl (j := j5) ej5 dX0_lasts_31 ?_
      refine sv_astore_nO hC dX0_lasts_32 rfl (by decide) (lvq := [(3, va_rf ((K.2.2.1 j5).map (fun _ => z.2.2.2.1 j5))), (0, .ref (z.1 0)), (1, .int x1), (2, .int x2)]) rfl ?_
      refine sv_aload_nO hC dX0_lasts_33 0 rfl rfl ?_
      obtain ⟨v6, ev6, h⟩ := sv_ob h
      refine sx_cget hC hz ev6 0 (by decide) q112 rfl dX0_lasts_34 ?_
      refine sv_istore hC dX0_lasts_37 (by decide) (lvq := [(4, .int v6.1), (3, va_rf ((K.2.2.1 j5).map (fun _ => z.2.2.2.1 j5))), (0, .ref (z.1 0)), (1, .int x1), (2, .int x2)]) (by cases K.2.2.1 j5 <;> rfl) ?_
      refine sv_iconst hC (v := 0) dX0_lasts_39 (by decide) ?_
      refine sv_istore hC dX0_lasts_40 (by decide) (lvq := [(5, .int 0), (4, .int v6.1), (3, va_rf ((K.2.2.1 j5).map (fun _ => z.2.2.2.1 j5))), (0, .ref (z.1 0)), (1, .int x1), (2, .int x2)]) rfl ?_
      refine sv_loc [5, 2, 1, 0] (lvq := [(2, .int x2), (3, va_rf ((K.2.2.1 j5).map (fun _ => z.2.2.2.1 j5))), (4, .int v6.1), (5, .int 0)]) rfl ?_
      exact wk_xdX0_lasts_42 z K hz σ hC hQ sv_FU x2 j5 v6.1 0 h
    · have h := sv_it c4 h
      refine sv_bipush hC (v := (-3)) dX0_lasts_23 (by decide) ?_
      exact sv_iret hC hQ dX0_lasts_25 (by have e := Option.some.inj h; subst e; exact ⟨rfl, rfl⟩)
  · have h := sv_it c2 h
    refine sv_bipush hC (v := (-2)) dX0_lasts_8 (by decide) ?_
    exact sv_iret hC hQ dX0_lasts_10 (by have e := Option.some.inj h; subst e; exact ⟨rfl, rfl⟩)
set_option maxHeartbeats 2000000 in
theorem met_xdX0_lasts {l : Launch} {s0 : State} {D : va_G} {dA : Nat → ClassId} (hF : sv_F s0 D dA) (z : XZ) (K : XK) (hz : SP s0 dA z K) (σ : MSt) (x1 : Int32) (x2 : Int32) {r0 : Int32} (h : xdX0_lasts K σ x1 x2 = some r0) : sv_M l s0 D yX0_lasts cX0_lasts 6 (some .int) rm_X0_lasts [.ref (z.1 0), .int x1, .int x2] (SW dA z K σ) (sv_pI r0 (SW dA z K σ)) :=
  sv_met hF (by decide) (Nat.le_of_ble_eq_true rfl) (fun Γ hC hQ hmn e1 e2 e3 e4 => by
    subst e1 e2 e3 e4
    exact wk_xdX0_lasts z K hz σ hC hQ x1 x2 h)
set_option maxHeartbeats 2000000 in
theorem wk_xdX3_copy_2b {Γ : sv_G} (z : XZ) (K : XK) (hz : SP (sg_s0 Γ) (sg_dA Γ) z K) (p : Nat) (o : Nat) (hp : p < 2) (ho : o < 2) (hC : sv_C Γ cX3_copy 3 RX3 none rm_X3_copy) {r0 : MSt} (hQ : sv_RQ Γ (sv_pV (SW (sg_dA Γ) z K r0)) 0 0)  (rk_2 : Int32 → MSt → Option MSt) (hk_2 : ∀ (x2 : Int32) (σ : MSt), rk_2 x2 σ = some r0 → sv_V Γ (SW (sg_dA Γ) z K σ) 0 0 2 [(0, .ref (z.1 (5 + p))), (1, .ref (z.1 (5 + o))), (2, .int x2)] []) (x2 : Int32) (σ : MSt)  (h : xdX3_copy_2b K p o rk_2 x2 σ = some r0) : sv_V Γ (SW (sg_dA Γ) z K σ) 0 0 2 [(0, .ref (z.1 (5 + p))), (1, .ref (z.1 (5 + o))), (2, .int x2)] [] := by
  unfold xdX3_copy_2b at h
  refine sv_iload_n hC dX3_copy_2 2 rfl rfl ?_
  refine sv_bipush hC (v := 21) dX3_copy_3 (by decide) ?_
  refine sv_icmp_ge hC (tgt := 50) dX3_copy_5 (by decide) (fun c1 => ?_) (fun c1 => ?_)
  · have h := sv_it c1 h
    exact sv_vret hC hQ dX3_copy_50 (by have e := Option.some.inj h; subst e; exact ⟨rfl, rfl⟩)
  · have h := sv_if c1 h
    refine sv_aload_n hC dX3_copy_8 1 rfl rfl ?_
    refine sv_get hC in_X3 (5 + o) (sx_p (p := o) ho) rfl 0 (by decide) q134 rfl (v := .ref (z.1 (7 + 2 * o))) rfl dX3_copy_9 ?_
    refine sv_iload_n hC dX3_copy_12 2 rfl rfl ?_
    obtain ⟨j2, ej2, h⟩ := sv_ob h
    refine sv_aldr hC (7 + 2 * o) 6 (sx_ps (p := o) ho) rfl rfl (j := j2) (b := z.1 (j2 + (21 + 42 * o) + 20)) ej2 rfl dX3_copy_13 ?_
    refine sv_iconst hC (v := 0) dX3_copy_14 (by decide) ?_
    refine sv_aload_n hC dX3_copy_15 0 rfl rfl ?_
    refine sv_get hC in_X3 (5 + p) (sx_p (p := p) hp) rfl 0 (by decide) q134 rfl (v := .ref (z.1 (7 + 2 * p))) rfl dX3_copy_16 ?_
    refine sv_iload_n hC dX3_copy_19 2 rfl rfl ?_
    obtain ⟨j3, ej3, h⟩ := sv_ob h
    refine sv_aldr hC (7 + 2 * p) 6 (sx_ps (p := p) hp) rfl rfl (j := j3) (b := z.1 (j3 + (21 + 42 * p) + 20)) ej3 rfl dX3_copy_20 ?_
    refine sv_iconst hC (v := 0) dX3_copy_21 (by decide) ?_
    refine sv_iconst hC (v := 4) dX3_copy_22 (by decide) ?_
    obtain ⟨gd, h⟩ := sv_gd h
    refine sv_copy hC q903 q426 q425 q70 (j2 + (21 + 42 * o) + 20) (j3 + (21 + 42 * p) + 20) 1 (sx_a (XA_ps (p := o) (d := j2) ho (sv_ixl ej2))) (sx_a (XA_ps (p := p) (d := j3) hp (sv_ixl ej3))) rfl rfl (by decide) (by decide) (by decide) (by decide) (by decide) (xs_bs gd) (X' := SW (sg_dA Γ) z K (ms_w σ (j3 + (21 + 42 * p)) (va_cpy (σ.2 (j2 + (21 + 42 * o))) (σ.2 (j3 + (21 + 42 * p))) (0 : Int32).toNatClampNeg (0 : Int32).toNatClampNeg (4 : Int32).toNatClampNeg))) (sx_aw (XA_ps (p := p) (d := j3) hp (sv_ixl ej3)) _) (by decide) (Nat.le_of_ble_eq_true rfl) dX3_copy_23 ?_
    refine sv_aload_n hC dX3_copy_26 1 rfl rfl ?_
    refine sv_get hC in_X3 (5 + o) (sx_p (p := o) ho) rfl 1 (by decide) q137 rfl (v := .ref (z.1 (8 + 2 * o))) rfl dX3_copy_27 ?_
    refine sv_iload_n hC dX3_copy_30 2 rfl rfl ?_
    obtain ⟨j4, ej4, h⟩ := sv_ob h
    refine sv_aldr hC (8 + 2 * o) 7 (sx_pr (p := o) ho) rfl rfl (j := j4) (b := z.1 (j4 + (42 + 42 * o) + 20)) ej4 rfl dX3_copy_31 ?_
    refine sv_iconst hC (v := 0) dX3_copy_32 (by decide) ?_
    refine sv_aload_n hC dX3_copy_33 0 rfl rfl ?_
    refine sv_get hC in_X3 (5 + p) (sx_p (p := p) hp) rfl 1 (by decide) q137 rfl (v := .ref (z.1 (8 + 2 * p))) rfl dX3_copy_34 ?_
    refine sv_iload_n hC dX3_copy_37 2 rfl rfl ?_
    obtain ⟨j5, ej5, h⟩ := sv_ob h
    refine sv_aldr hC (8 + 2 * p) 7 (sx_pr (p := p) hp) rfl rfl (j := j5) (b := z.1 (j5 + (42 + 42 * p) + 20)) ej5 rfl dX3_copy_38 ?_
    refine sv_iconst hC (v := 0) dX3_copy_39 (by decide) ?_
    refine sv_iconst hC (v := 4) dX3_copy_40 (by decide) ?_
    obtain ⟨gd, h⟩ := sv_gd h
    refine sv_copy hC q903 q426 q425 q70 (j4 + (42 + 42 * o) + 20) (j5 + (42 + 42 * p) + 20) 2 (sx_a (XA_pr (p := o) (d := j4) ho (sv_ixl ej4))) (sx_a (XA_pr (p := p) (d := j5) hp (sv_ixl ej5))) rfl rfl (by decide) (by decide) (by decide) (by decide) (by decide) (xs_zs gd) (X' := SW (sg_dA Γ) z K (ms_w (ms_w σ (j3 + (21 + 42 * p)) (va_cpy (σ.2 (j2 + (21 + 42 * o))) (σ.2 (j3 + (21 + 42 * p))) (0 : Int32).toNatClampNeg (0 : Int32).toNatClampNeg (4 : Int32).toNatClampNeg)) (j5 + (42 + 42 * p)) (va_cpy ((ms_w σ (j3 + (21 + 42 * p)) (va_cpy (σ.2 (j2 + (21 + 42 * o))) (σ.2 (j3 + (21 + 42 * p))) (0 : Int32).toNatClampNeg (0 : Int32).toNatClampNeg (4 : Int32).toNatClampNeg)).2 (j4 + (42 + 42 * o))) ((ms_w σ (j3 + (21 + 42 * p)) (va_cpy (σ.2 (j2 + (21 + 42 * o))) (σ.2 (j3 + (21 + 42 * p))) (0 : Int32).toNatClampNeg (0 : Int32).toNatClampNeg (4 : Int32).toNatClampNeg)).2 (j5 + (42 + 42 * p))) (0 : Int32).toNatClampNeg (0 : Int32).toNatClampNeg (4 : Int32).toNatClampNeg))) (sx_aw (XA_pr (p := p) (d := j5) hp (sv_ixl ej5)) _) (by decide) (Nat.le_of_ble_eq_true rfl) dX3_copy_41 ?_
    refine sv_iinc hC (v := x2 + 1) dX3_copy_44 2 rfl rfl (by decide) (lvq := [(2, .int (x2 + 1)), (0, .ref (z.1 (5 + p))), (1, .ref (z.1 (5 + o)))]) rfl ?_
    refine sv_goto hC (tgt := 2) dX3_copy_47 (by decide) ?_
    refine sv_loc [1, 2, 0] (lvq := [(0, .ref (z.1 (5 + p))), (1, .ref (z.1 (5 + o))), (2, .int (x2 + 1))]) rfl ?_
    exact hk_2 (x2 + 1) (ms_w (ms_w σ (j3 + (21 + 42 * p)) (va_cpy (σ.2 (j2 + (21 + 42 * o))) (σ.2 (j3 + (21 + 42 * p))) (0 : Int32).toNatClampNeg (0 : Int32).toNatClampNeg (4 : Int32).toNatClampNeg)) (j5 + (42 + 42 * p)) (va_cpy ((ms_w σ (j3 + (21 + 42 * p)) (va_cpy (σ.2 (j2 + (21 + 42 * o))) (σ.2 (j3 + (21 + 42 * p))) (0 : Int32).toNatClampNeg (0 : Int32).toNatClampNeg (4 : Int32).toNatClampNeg)).2 (j4 + (42 + 42 * o))) ((ms_w σ (j3 + (21 + 42 * p)) (va_cpy (σ.2 (j2 + (21 + 42 * o))) (σ.2 (j3 + (21 + 42 * p))) (0 : Int32).toNatClampNeg (0 : Int32).toNatClampNeg (4 : Int32).toNatClampNeg)).2 (j5 + (42 + 42 * p))) (0 : Int32).toNatClampNeg (0 : Int32).toNatClampNeg (4 : Int32).toNatClampNeg)) h
set_option maxHeartbeats 2000000 in
theorem wk_xdX3_copy_2 {Γ : sv_G} (z : XZ) (K : XK) (hz : SP (sg_s0 Γ) (sg_dA Γ) z K) (p : Nat) (o : Nat) (hp : p < 2) (ho : o < 2) (hC : sv_C Γ cX3_copy 3 RX3 none rm_X3_copy) {r0 : MSt} (hQ : sv_RQ Γ (sv_pV (SW (sg_dA Γ) z K r0)) 0 0)  : ∀ (n : Nat) (x2 : Int32) (σ : MSt)  (h : xdX3_copy_2 K p o n x2 σ = some r0), sv_V Γ (SW (sg_dA Γ) z K σ) 0 0 2 [(0, .ref (z.1 (5 + p))), (1, .ref (z.1 (5 + o))), (2, .int x2)] [] := by
  intro n
  induction n with
  | zero => intro x2 σ h; cases h
  | succ n ih => intro x2 σ h; exact wk_xdX3_copy_2b z K hz p o hp ho hC hQ (xdX3_copy_2 K p o n) ih x2 σ h
set_option maxHeartbeats 2000000 in
theorem wk_xdX3_copy {Γ : sv_G} (z : XZ) (K : XK) (hz : SP (sg_s0 Γ) (sg_dA Γ) z K) (p : Nat) (o : Nat) (hp : p < 2) (ho : o < 2) (hC : sv_C Γ cX3_copy 3 RX3 none rm_X3_copy) {r0 : MSt} (hQ : sv_RQ Γ (sv_pV (SW (sg_dA Γ) z K r0)) 0 0) (σ : MSt) (h : xdX3_copy K p o σ = some r0) : sv_V Γ (SW (sg_dA Γ) z K σ) 0 0 0 [(0, .ref (z.1 (5 + p))), (1, .ref (z.1 (5 + o)))] [] := by
  unfold xdX3_copy at h
  refine sv_iconst hC (v := 0) dX3_copy_0 (by decide) ?_
  refine sv_istore_n hC dX3_copy_1 rfl (by decide) (lvq := [(2, .int 0), (0, .ref (z.1 (5 + p))), (1, .ref (z.1 (5 + o)))]) rfl ?_
  refine sv_loc [1, 2, 0] (lvq := [(0, .ref (z.1 (5 + p))), (1, .ref (z.1 (5 + o))), (2, .int 0)]) rfl ?_
  exact wk_xdX3_copy_2 z K hz p o hp ho hC hQ sv_FU 0 σ h
set_option maxHeartbeats 2000000 in
theorem met_xdX3_copy {l : Launch} {s0 : State} {D : va_G} {dA : Nat → ClassId} (hF : sv_F s0 D dA) (z : XZ) (K : XK) (hz : SP s0 dA z K) (p : Nat) (o : Nat) (hp : p < 2) (ho : o < 2) (σ : MSt) {r0 : MSt} (h : xdX3_copy K p o σ = some r0) : sv_M l s0 D yX3_copy cX3_copy 3 none rm_X3_copy [.ref (z.1 (5 + p)), .ref (z.1 (5 + o))] (SW dA z K σ) (sv_pV (SW dA z K r0)) :=
  sv_met hF (by decide) (Nat.le_of_ble_eq_true rfl) (fun Γ hC hQ hmn e1 e2 e3 e4 => by
    subst e1 e2 e3 e4
    exact wk_xdX3_copy z K hz p o hp ho hC hQ σ h)
