/-! THE SYSTEM's METHODS: their walks (printed by gen_straw.py) -/
set_option maxRecDepth 100000
set_option maxHeartbeats 2000000 in
theorem wk_xdX0_in {Γ : sv_G}  (hC : sv_C Γ cX0_in 6 RX0 (some .boolean) rm_X0_in) {r0 : Int32} (hQ : sv_RQ Γ (sv_pI r0 []) 0 0) (x0 : Int64) (x2 : Int64) (x4 : Int64) (h : xdX0_in x0 x2 x4 = some r0) : sv_V Γ ([]) 0 0 0 [(0, .long x0), (2, .long x2), (4, .long x4)] [] := by
  unfold xdX0_in at h
  refine sv_lload_n hC dX0_in_0 0 rfl rfl ?_
  refine sv_lload_n hC dX0_in_1 1 rfl rfl ?_
  refine sv_lcmp hC dX0_in_2 ?_
  refine sv_if_lt hC (tgt := 17) dX0_in_3 (by decide) (fun c1 => ?_) (fun c1 => ?_)
  · have h := sv_it c1 h
    refine sv_iconst hC (v := 0) dX0_in_17 (by decide) ?_
    exact sv_zret hC hQ dX0_in_18 rfl (by have e := Option.some.inj h; subst e; exact ⟨rfl, rfl⟩)
  · have h := sv_if c1 h
    refine sv_lload_n hC dX0_in_6 0 rfl rfl ?_
    refine sv_lload hC dX0_in_7 2 rfl ?_
    refine sv_lcmp hC dX0_in_9 ?_
    refine sv_if_gt hC (tgt := 17) dX0_in_10 (by decide) (fun c2 => ?_) (fun c2 => ?_)
    · have h := sv_it c2 h
      refine sv_iconst hC (v := 0) dX0_in_17 (by decide) ?_
      exact sv_zret hC hQ dX0_in_18 rfl (by have e := Option.some.inj h; subst e; exact ⟨rfl, rfl⟩)
    · have h := sv_if c2 h
      refine sv_iconst hC (v := 1) dX0_in_13 (by decide) ?_
      refine sv_goto hC (tgt := 18) dX0_in_14 (by decide) ?_
      exact sv_zret hC hQ dX0_in_18 rfl (by have e := Option.some.inj h; subst e; exact ⟨rfl, rfl⟩)
set_option maxHeartbeats 2000000 in
theorem met_xdX0_in {l : Launch} {s0 : State} {D : va_G} {dA : Nat → ClassId} (hF : sv_F s0 D dA)  (x0 : Int64) (x2 : Int64) (x4 : Int64) {r0 : Int32} (h : xdX0_in x0 x2 x4 = some r0) : sv_M l s0 D yX0_in cX0_in 6 (some .boolean) rm_X0_in [.long x0, .long x2, .long x4] ([]) (sv_pI r0 []) :=
  sv_met hF (by decide) (Nat.le_of_ble_eq_true rfl) (fun Γ hC hQ hmn e1 e2 e3 e4 => by
    subst e1 e2 e3 e4
    exact wk_xdX0_in hC hQ x0 x2 x4 h)
set_option maxHeartbeats 2000000 in
theorem wk_xdX0_write_35b {Γ : sv_G} (z : XZ) (K : XK) (hz : SP (sg_s0 Γ) (sg_dA Γ) z K) (hC : sv_C Γ cX0_write 5 RX0 (some .int) rm_X0_write) {r0 : Int32 × MSt} (hQ : sv_RQ Γ (sv_pI r0.1 (SW (sg_dA Γ) z K r0.2)) 0 0)  (rk_35 : Int64 → Int32 → Int32 → MSt → Option (Int32 × MSt)) (hk_35 : ∀ (x1 : Int64) (x3 : Int32) (x4 : Int32) (σ : MSt), rk_35 x1 x3 x4 σ = some r0 → sv_V Γ (SW (sg_dA Γ) z K σ) 0 0 35 [(0, .ref (z.1 0)), (1, .long x1), (3, .int x3), (4, .int x4)] []) (x1 : Int64) (x3 : Int32) (x4 : Int32) (σ : MSt)  (h : xdX0_write_35b K rk_35 x1 x3 x4 σ = some r0) : sv_V Γ (SW (sg_dA Γ) z K σ) 0 0 35 [(0, .ref (z.1 0)), (1, .long x1), (3, .int x3), (4, .int x4)] [] := by
  unfold xdX0_write_35b at h
  refine sv_iload hC dX0_write_35 3 rfl ?_
  refine sv_iload_n hC dX0_write_37 2 rfl rfl ?_
  refine sv_icmp_ge hC (tgt := 72) dX0_write_38 (by decide) (fun c4 => ?_) (fun c4 => ?_)
  · have h := sv_it c4 h
    refine sv_aload_n hC dX0_write_72 0 rfl rfl ?_
    refine sv_get hC in_X0 0 (sx_at (by decide)) rfl 14 (by decide) q243 rfl (v := .int (σ.1 14)) rfl dX0_write_73 ?_
    exact sv_iret hC hQ dX0_write_76 (by have e := Option.some.inj h; subst e; exact ⟨rfl, rfl⟩)
  · have h := sv_if c4 h
    refine sv_aload_n hC dX0_write_41 0 rfl rfl ?_
    refine sv_get hC in_X0 0 (sx_at (by decide)) rfl 13 (by decide) q241 rfl (v := .ref (z.1 125)) rfl dX0_write_42 ?_
    refine sv_aload_n hC dX0_write_45 0 rfl rfl ?_
    refine sv_dup hC dX0_write_46 rfl ?_
    refine sv_get hC in_X0 0 (sx_at (by decide)) rfl 14 (by decide) q243 rfl (v := .int (σ.1 14)) rfl dX0_write_47 ?_
    refine sv_dup_x1 hC dX0_write_50 rfl rfl ?_
    refine sv_iconst hC (v := 1) dX0_write_51 (by decide) ?_
    refine sv_iadd hC dX0_write_52 ?_
    refine sv_put hC in_X0 tyX0 tyX0_ok nmX0 0 (sx_at (by decide)) rfl 14 (by decide) q243 rfl rfl rfl rfl (Nat.le_of_ble_eq_true rfl) (Xq := SW (sg_dA Γ) z K (ms_s σ 14 ((σ.1 14) + 1))) (sx_set (by decide) (xe_s0 (by decide)) rfl) dX0_write_53 ?_
    refine sv_lload_n hC dX0_write_56 1 rfl rfl ?_
    refine sv_bipush hC (v := 8) dX0_write_57 (by decide) ?_
    refine sv_iload hC dX0_write_59 3 rfl ?_
    refine sv_imul hC dX0_write_61 ?_
    refine sv_lshr hC dX0_write_62 ?_
    refine sv_l2i hC dX0_write_63 ?_
    refine sv_i2b hC dX0_write_64 ?_
    obtain ⟨j5, ej5, h⟩ := sv_ob h
    refine sv_bast hC (105 + 20) (f := (ms_s σ 14 ((σ.1 14) + 1)).2 105) (sx_a XA_tx) rfl (j := j5) ej5 (Xq := SW (sg_dA Γ) z K (ms_a (ms_s σ 14 ((σ.1 14) + 1)) 105 j5 (vp_nar .byte (((x1 >>> ((8 * x4).toInt64 &&& 63)).toInt32).toInt8.toInt32)))) (sx_as XA_tx) dX0_write_65 ?_
    refine sv_iinc hC (v := x4 + 1) dX0_write_66 3 rfl rfl (by decide) (lvq := [(4, .int (x4 + 1)), (0, .ref (z.1 0)), (1, .long x1), (3, .int x3)]) rfl ?_
    refine sv_goto hC (tgt := 35) dX0_write_69 (by decide) ?_
    refine sv_loc [1, 2, 3, 0] (lvq := [(0, .ref (z.1 0)), (1, .long x1), (3, .int x3), (4, .int (x4 + 1))]) rfl ?_
    exact hk_35 x1 x3 (x4 + 1) (ms_a (ms_s σ 14 ((σ.1 14) + 1)) 105 j5 (vp_nar .byte (((x1 >>> ((8 * x4).toInt64 &&& 63)).toInt32).toInt8.toInt32))) h
set_option maxHeartbeats 2000000 in
theorem wk_xdX0_write_35 {Γ : sv_G} (z : XZ) (K : XK) (hz : SP (sg_s0 Γ) (sg_dA Γ) z K) (hC : sv_C Γ cX0_write 5 RX0 (some .int) rm_X0_write) {r0 : Int32 × MSt} (hQ : sv_RQ Γ (sv_pI r0.1 (SW (sg_dA Γ) z K r0.2)) 0 0)  : ∀ (n : Nat) (x1 : Int64) (x3 : Int32) (x4 : Int32) (σ : MSt)  (h : xdX0_write_35 K n x1 x3 x4 σ = some r0), sv_V Γ (SW (sg_dA Γ) z K σ) 0 0 35 [(0, .ref (z.1 0)), (1, .long x1), (3, .int x3), (4, .int x4)] [] := by
  intro n
  induction n with
  | zero => intro x1 x3 x4 σ h; cases h
  | succ n ih => intro x1 x3 x4 σ h; exact wk_xdX0_write_35b z K hz hC hQ (xdX0_write_35 K n) ih x1 x3 x4 σ h
set_option maxHeartbeats 2000000 in
theorem wk_xdX0_write {Γ : sv_G} (z : XZ) (K : XK) (hz : SP (sg_s0 Γ) (sg_dA Γ) z K) (hC : sv_C Γ cX0_write 5 RX0 (some .int) rm_X0_write) {r0 : Int32 × MSt} (hQ : sv_RQ Γ (sv_pI r0.1 (SW (sg_dA Γ) z K r0.2)) 0 0) (x1 : Int64) (x3 : Int32) (σ : MSt) (h : xdX0_write K x1 x3 σ = some r0) : sv_V Γ (SW (sg_dA Γ) z K σ) 0 0 0 [(0, .ref (z.1 0)), (1, .long x1), (3, .int x3)] [] := by
  unfold xdX0_write at h
  refine sv_iload_n hC dX0_write_0 2 rfl rfl ?_
  refine sv_i2l hC dX0_write_1 ?_
  refine sv_lconst hC (v := 1) dX0_write_2 (by decide) ?_
  refine sv_ldc2 hC dX0_write_3 q291 ?_
  obtain ⟨r1, er1, h⟩ := sv_ob h
  refine sv_pSi (nn := 3) hC (met_xdX0_in hC.F x3.toInt64 1 8 er1) (lw_S q292 q293 q52 q294) (by decide +kernel) ⟨by decide, by decide⟩ ⟨rfl, rfl⟩ rfl rfl (Nat.le_of_ble_eq_true rfl) ⟨Nat.le_refl 0, Nat.le_refl 0⟩ dX0_write_6 ?_
  refine sv_if_ne hC (tgt := 15) dX0_write_9 (by decide) (fun c2 => ?_) (fun c2 => ?_)
  · have h := sv_if c2 h
    refine sv_aload_n hC dX0_write_15 0 rfl rfl ?_
    refine sv_get hC in_X0 0 (sx_at (by decide)) rfl 14 (by decide) q243 rfl (v := .int (σ.1 14)) rfl dX0_write_16 ?_
    refine sv_iload_n hC dX0_write_19 2 rfl rfl ?_
    refine sv_iadd hC dX0_write_20 ?_
    refine sv_aload_n hC dX0_write_21 0 rfl rfl ?_
    refine sv_get hC in_X0 0 (sx_at (by decide)) rfl 13 (by decide) q241 rfl (v := .ref (z.1 125)) rfl dX0_write_22 ?_
    refine sv_alen hC (105 + 20) 1 (sx_a XA_tx) rfl (v := 200) rfl dX0_write_25 ?_
    refine sv_icmp_le hC (tgt := 32) dX0_write_26 (by decide) (fun c3 => ?_) (fun c3 => ?_)
    · have h := sv_it c3 h
      refine sv_iconst hC (v := 0) dX0_write_32 (by decide) ?_
      refine sv_istore hC dX0_write_33 (by decide) (lvq := [(4, .int 0), (0, .ref (z.1 0)), (1, .long x1), (3, .int x3)]) rfl ?_
      refine sv_loc [1, 2, 3, 0] (lvq := [(0, .ref (z.1 0)), (1, .long x1), (3, .int x3), (4, .int 0)]) rfl ?_
      exact wk_xdX0_write_35 z K hz hC hQ sv_FU x1 x3 0 σ h
    · have h := sv_if c3 h
      refine sv_bipush hC (v := (-5)) dX0_write_29 (by decide) ?_
      exact sv_iret hC hQ dX0_write_31 (by have e := Option.some.inj h; subst e; exact ⟨rfl, rfl⟩)
  · have h := sv_it c2 h
    refine sv_bipush hC (v := (-3)) dX0_write_12 (by decide) ?_
    exact sv_iret hC hQ dX0_write_14 (by have e := Option.some.inj h; subst e; exact ⟨rfl, rfl⟩)
set_option maxHeartbeats 2000000 in
theorem met_xdX0_write {l : Launch} {s0 : State} {D : va_G} {dA : Nat → ClassId} (hF : sv_F s0 D dA) (z : XZ) (K : XK) (hz : SP s0 dA z K) (x1 : Int64) (x3 : Int32) (σ : MSt) {r0 : Int32 × MSt} (h : xdX0_write K x1 x3 σ = some r0) : sv_M l s0 D yX0_write cX0_write 5 (some .int) rm_X0_write [.ref (z.1 0), .long x1, .int x3] (SW dA z K σ) (sv_pI r0.1 (SW dA z K r0.2)) :=
  sv_met hF (by decide) (Nat.le_of_ble_eq_true rfl) (fun Γ hC hQ hmn e1 e2 e3 e4 => by
    subst e1 e2 e3 e4
    exact wk_xdX0_write z K hz hC hQ x1 x3 σ h)
set_option maxHeartbeats 2000000 in
theorem wk_xdX0_erase {Γ : sv_G} (z : XZ) (K : XK) (hz : SP (sg_s0 Γ) (sg_dA Γ) z K) (hC : sv_C Γ cX0_erase 2 RX0 (some .int) rm_X0_erase) {r0 : Int32 × MSt} (hQ : sv_RQ Γ (sv_pI r0.1 (SW (sg_dA Γ) z K r0.2)) 0 0) (σ : MSt) (h : xdX0_erase K σ = some r0) : sv_V Γ (SW (sg_dA Γ) z K σ) 0 0 0 [(0, .ref (z.1 0))] [] := by
  unfold xdX0_erase at h
  refine sv_aload_n hC dX0_erase_0 0 rfl rfl ?_
  refine sv_get hC in_X0 0 (sx_at (by decide)) rfl 14 (by decide) q243 rfl (v := .int (σ.1 14)) rfl dX0_erase_1 ?_
  refine sv_istore_n hC dX0_erase_4 rfl (by decide) (lvq := [(1, .int (σ.1 14)), (0, .ref (z.1 0))]) rfl ?_
  refine sv_aload_n hC dX0_erase_5 1 rfl rfl ?_
  refine sv_iconst hC (v := 0) dX0_erase_6 (by decide) ?_
  refine sv_put hC in_X0 tyX0 tyX0_ok nmX0 0 (sx_at (by decide)) rfl 14 (by decide) q243 rfl rfl rfl rfl (Nat.le_of_ble_eq_true rfl) (Xq := SW (sg_dA Γ) z K (ms_s σ 14 0)) (sx_set (by decide) (xe_s0 (by decide)) rfl) dX0_erase_7 ?_
  refine sv_iload_n hC dX0_erase_10 0 rfl rfl ?_
  exact sv_iret hC hQ dX0_erase_11 (by have e := Option.some.inj h; subst e; exact ⟨rfl, rfl⟩)
set_option maxHeartbeats 2000000 in
theorem met_xdX0_erase {l : Launch} {s0 : State} {D : va_G} {dA : Nat → ClassId} (hF : sv_F s0 D dA) (z : XZ) (K : XK) (hz : SP s0 dA z K) (σ : MSt) {r0 : Int32 × MSt} (h : xdX0_erase K σ = some r0) : sv_M l s0 D yX0_erase cX0_erase 2 (some .int) rm_X0_erase [.ref (z.1 0)] (SW dA z K σ) (sv_pI r0.1 (SW dA z K r0.2)) :=
  sv_met hF (by decide) (Nat.le_of_ble_eq_true rfl) (fun Γ hC hQ hmn e1 e2 e3 e4 => by
    subst e1 e2 e3 e4
    exact wk_xdX0_erase z K hz hC hQ σ h)
set_option maxHeartbeats 2000000 in
theorem wk_xdX0_isField {Γ : sv_G} (z : XZ) (K : XK) (hz : SP (sg_s0 Γ) (sg_dA Γ) z K) (σ : MSt) (hC : sv_C Γ cX0_isField 2 RX0 (some .boolean) rm_X0_isField) {r0 : Int32} (hQ : sv_RQ Γ (sv_pI r0 (SW (sg_dA Γ) z K σ)) 0 0) (x1 : Int32) (h : xdX0_isField K σ x1 = some r0) : sv_V Γ (SW (sg_dA Γ) z K σ) 0 0 0 [(0, .ref (z.1 0)), (1, .int x1)] [] := by
  unfold xdX0_isField at h
  refine sv_iload_n hC dX0_isField_0 1 rfl rfl ?_
  refine sv_i2l hC dX0_isField_1 ?_
  refine sv_lconst hC (v := 0) dX0_isField_2 (by decide) ?_
  refine sv_ldc2 hC dX0_isField_3 q740 ?_
  obtain ⟨r1, er1, h⟩ := sv_ob h
  refine sv_pSi (nn := 3) hC (met_xdX0_in hC.F x1.toInt64 0 3 er1) (lw_S q292 q293 q52 q294) (by decide +kernel) ⟨by decide, by decide⟩ ⟨rfl, rfl⟩ rfl rfl (Nat.le_of_ble_eq_true rfl) ⟨Nat.le_refl 0, Nat.le_refl 0⟩ dX0_isField_6 ?_
  refine sv_if_eq hC (tgt := 25) dX0_isField_9 (by decide) (fun c2 => ?_) (fun c2 => ?_)
  · have h := sv_it c2 h
    refine sv_iconst hC (v := 0) dX0_isField_25 (by decide) ?_
    exact sv_zret hC hQ dX0_isField_26 rfl (by have e := Option.some.inj h; subst e; exact ⟨rfl, rfl⟩)
  · have h := sv_if c2 h
    refine sv_aload_n hC dX0_isField_12 0 rfl rfl ?_
    refine sv_get hC in_X0 0 (sx_at (by decide)) rfl 0 (by decide) q222 rfl (v := .ref (z.1 1)) rfl dX0_isField_13 ?_
    refine sv_iload_n hC dX0_isField_16 1 rfl rfl ?_
    obtain ⟨j3, ej3, h⟩ := sv_ob h
    refine sv_aldq hC 1 3 (sx_at (by decide)) rfl (j := j3) ej3 dX0_isField_17 ?_
    refine sv_ifnullM hC (tgt := 25) dX0_isField_18 (by decide) (fun c4 => ?_) (fun c4 => ?_)
    · have h := sv_it c4 h
      refine sv_iconst hC (v := 0) dX0_isField_25 (by decide) ?_
      exact sv_zret hC hQ dX0_isField_26 rfl (by have e := Option.some.inj h; subst e; exact ⟨rfl, rfl⟩)
    · have h := sv_if c4 h
      refine sv_iconst hC (v := 1) dX0_isField_21 (by decide) ?_
      refine sv_goto hC (tgt := 26) dX0_isField_22 (by decide) ?_
      exact sv_zret hC hQ dX0_isField_26 rfl (by have e := Option.some.inj h; subst e; exact ⟨rfl, rfl⟩)
set_option maxHeartbeats 2000000 in
theorem met_xdX0_isField {l : Launch} {s0 : State} {D : va_G} {dA : Nat → ClassId} (hF : sv_F s0 D dA) (z : XZ) (K : XK) (hz : SP s0 dA z K) (σ : MSt) (x1 : Int32) {r0 : Int32} (h : xdX0_isField K σ x1 = some r0) : sv_M l s0 D yX0_isField cX0_isField 2 (some .boolean) rm_X0_isField [.ref (z.1 0), .int x1] (SW dA z K σ) (sv_pI r0 (SW dA z K σ)) :=
  sv_met hF (by decide) (Nat.le_of_ble_eq_true rfl) (fun Γ hC hQ hmn e1 e2 e3 e4 => by
    subst e1 e2 e3 e4
    exact wk_xdX0_isField z K hz σ hC hQ x1 h)
set_option maxHeartbeats 2000000 in
theorem wk_xdX0_field {Γ : sv_G} (z : XZ) (K : XK) (hz : SP (sg_s0 Γ) (sg_dA Γ) z K) (σ : MSt) (hC : sv_C Γ cX0_field 3 RX0 (some .int) rm_X0_field) {r0 : Int32} (hQ : sv_RQ Γ (sv_pI r0 (SW (sg_dA Γ) z K σ)) 0 0) (x1 : Int32) (x2 : Int32) (h : xdX0_field K σ x1 x2 = some r0) : sv_V Γ (SW (sg_dA Γ) z K σ) 0 0 0 [(0, .ref (z.1 0)), (1, .int x1), (2, .int x2)] [] := by
  unfold xdX0_field at h
  refine sv_aload_n hC dX0_field_0 0 rfl rfl ?_
  refine sv_iload_n hC dX0_field_1 1 rfl rfl ?_
  obtain ⟨r1, er1, h⟩ := sv_ob h
  refine sv_wVi (nn := 1) hC (met_xdX0_isField hC.F z K hz σ x1 er1) 0 1 (sx_at (by decide)) rfl rfl (lw_V q736 q738 qs6 q52 q739) (by decide +kernel) ⟨by decide, by decide⟩ ⟨rfl, rfl⟩ rfl rfl (Nat.le_of_ble_eq_true rfl) ⟨Nat.le_refl 0, Nat.le_refl 0⟩ dX0_field_2 ?_
  refine sv_if_ne hC (tgt := 11) dX0_field_5 (by decide) (fun c2 => ?_) (fun c2 => ?_)
  · have h := sv_if c2 h
    refine sv_iload_n hC dX0_field_11 2 rfl rfl ?_
    refine sv_if_ne hC (tgt := 27) dX0_field_12 (by decide) (fun c3 => ?_) (fun c3 => ?_)
    · have h := sv_if c3 h
      refine sv_iload_n hC dX0_field_27 2 rfl rfl ?_
      refine sv_iconst hC (v := 1) dX0_field_28 (by decide) ?_
      refine sv_icmp_ne hC (tgt := 44) dX0_field_29 (by decide) (fun c4 => ?_) (fun c4 => ?_)
      · have h := sv_if c4 h
        refine sv_iload_n hC dX0_field_44 2 rfl rfl ?_
        refine sv_iconst hC (v := 2) dX0_field_45 (by decide) ?_
        refine sv_icmp_ne hC (tgt := 61) dX0_field_46 (by decide) (fun c5 => ?_) (fun c5 => ?_)
        · have h := sv_if c5 h
          refine sv_bipush hC (v := (-3)) dX0_field_61 (by decide) ?_
          exact sv_iret hC hQ dX0_field_63 (by have e := Option.some.inj h; subst e; exact ⟨rfl, rfl⟩)
        · have h := sv_it c5 h
          refine sv_aload_n hC dX0_field_49 0 rfl rfl ?_
          refine sv_get hC in_X0 0 (sx_at (by decide)) rfl 0 (by decide) q222 rfl (v := .ref (z.1 1)) rfl dX0_field_50 ?_
          refine sv_iload_n hC dX0_field_53 1 rfl rfl ?_
          obtain ⟨j6, ej6, h⟩ := sv_ob h
          refine sv_aldq hC 1 3 (sx_at (by decide)) rfl (j := j6) ej6 dX0_field_54 ?_
          obtain ⟨v7, ev7, h⟩ := sv_ob h
          refine sx_fget hC hz ev7 2 (by decide) q699 rfl dX0_field_55 ?_
          refine sv_goto hC (tgt := 63) dX0_field_58 (by decide) ?_
          exact sv_iret hC hQ dX0_field_63 (by have e := Option.some.inj h; subst e; exact ⟨rfl, rfl⟩)
      · have h := sv_it c4 h
        refine sv_aload_n hC dX0_field_32 0 rfl rfl ?_
        refine sv_get hC in_X0 0 (sx_at (by decide)) rfl 0 (by decide) q222 rfl (v := .ref (z.1 1)) rfl dX0_field_33 ?_
        refine sv_iload_n hC dX0_field_36 1 rfl rfl ?_
        obtain ⟨j8, ej8, h⟩ := sv_ob h
        refine sv_aldq hC 1 3 (sx_at (by decide)) rfl (j := j8) ej8 dX0_field_37 ?_
        obtain ⟨v9, ev9, h⟩ := sv_ob h
        refine sx_fget hC hz ev9 1 (by decide) q697 rfl dX0_field_38 ?_
        refine sv_goto hC (tgt := 63) dX0_field_41 (by decide) ?_
        exact sv_iret hC hQ dX0_field_63 (by have e := Option.some.inj h; subst e; exact ⟨rfl, rfl⟩)
    · have h := sv_it c3 h
      refine sv_aload_n hC dX0_field_15 0 rfl rfl ?_
      refine sv_get hC in_X0 0 (sx_at (by decide)) rfl 0 (by decide) q222 rfl (v := .ref (z.1 1)) rfl dX0_field_16 ?_
      refine sv_iload_n hC dX0_field_19 1 rfl rfl ?_
      obtain ⟨j10, ej10, h⟩ := sv_ob h
      refine sv_aldq hC 1 3 (sx_at (by decide)) rfl (j := j10) ej10 dX0_field_20 ?_
      obtain ⟨v11, ev11, h⟩ := sv_ob h
      refine sx_fget hC hz ev11 0 (by decide) q694 rfl dX0_field_21 ?_
      refine sv_goto hC (tgt := 63) dX0_field_24 (by decide) ?_
      exact sv_iret hC hQ dX0_field_63 (by have e := Option.some.inj h; subst e; exact ⟨rfl, rfl⟩)
  · have h := sv_it c2 h
    refine sv_bipush hC (v := (-2)) dX0_field_8 (by decide) ?_
    exact sv_iret hC hQ dX0_field_10 (by have e := Option.some.inj h; subst e; exact ⟨rfl, rfl⟩)
set_option maxHeartbeats 2000000 in
theorem met_xdX0_field {l : Launch} {s0 : State} {D : va_G} {dA : Nat → ClassId} (hF : sv_F s0 D dA) (z : XZ) (K : XK) (hz : SP s0 dA z K) (σ : MSt) (x1 : Int32) (x2 : Int32) {r0 : Int32} (h : xdX0_field K σ x1 x2 = some r0) : sv_M l s0 D yX0_field cX0_field 3 (some .int) rm_X0_field [.ref (z.1 0), .int x1, .int x2] (SW dA z K σ) (sv_pI r0 (SW dA z K σ)) :=
  sv_met hF (by decide) (Nat.le_of_ble_eq_true rfl) (fun Γ hC hQ hmn e1 e2 e3 e4 => by
    subst e1 e2 e3 e4
    exact wk_xdX0_field z K hz σ hC hQ x1 x2 h)
set_option maxHeartbeats 2000000 in
theorem wk_xdX0_isFlock {Γ : sv_G} (z : XZ) (K : XK) (hz : SP (sg_s0 Γ) (sg_dA Γ) z K) (σ : MSt) (hC : sv_C Γ cX0_isFlock 2 RX0 (some .boolean) rm_X0_isFlock) {r0 : Int32} (hQ : sv_RQ Γ (sv_pI r0 (SW (sg_dA Γ) z K σ)) 0 0) (x1 : Int32) (h : xdX0_isFlock K σ x1 = some r0) : sv_V Γ (SW (sg_dA Γ) z K σ) 0 0 0 [(0, .ref (z.1 0)), (1, .int x1)] [] := by
  unfold xdX0_isFlock at h
  refine sv_iload_n hC dX0_isFlock_0 1 rfl rfl ?_
  refine sv_i2l hC dX0_isFlock_1 ?_
  refine sv_lconst hC (v := 0) dX0_isFlock_2 (by decide) ?_
  refine sv_ldc2 hC dX0_isFlock_3 q740 ?_
  obtain ⟨r1, er1, h⟩ := sv_ob h
  refine sv_pSi (nn := 3) hC (met_xdX0_in hC.F x1.toInt64 0 3 er1) (lw_S q292 q293 q52 q294) (by decide +kernel) ⟨by decide, by decide⟩ ⟨rfl, rfl⟩ rfl rfl (Nat.le_of_ble_eq_true rfl) ⟨Nat.le_refl 0, Nat.le_refl 0⟩ dX0_isFlock_6 ?_
  refine sv_if_eq hC (tgt := 25) dX0_isFlock_9 (by decide) (fun c2 => ?_) (fun c2 => ?_)
  · have h := sv_it c2 h
    refine sv_iconst hC (v := 0) dX0_isFlock_25 (by decide) ?_
    exact sv_zret hC hQ dX0_isFlock_26 rfl (by have e := Option.some.inj h; subst e; exact ⟨rfl, rfl⟩)
  · have h := sv_if c2 h
    refine sv_aload_n hC dX0_isFlock_12 0 rfl rfl ?_
    refine sv_get hC in_X0 0 (sx_at (by decide)) rfl 1 (by decide) q224 rfl (v := .ref (z.1 2)) rfl dX0_isFlock_13 ?_
    refine sv_iload_n hC dX0_isFlock_16 1 rfl rfl ?_
    obtain ⟨j3, ej3, h⟩ := sv_ob h
    refine sv_aldq hC 2 4 (sx_at (by decide)) rfl (j := j3) ej3 dX0_isFlock_17 ?_
    refine sv_ifnullM hC (tgt := 25) dX0_isFlock_18 (by decide) (fun c4 => ?_) (fun c4 => ?_)
    · have h := sv_it c4 h
      refine sv_iconst hC (v := 0) dX0_isFlock_25 (by decide) ?_
      exact sv_zret hC hQ dX0_isFlock_26 rfl (by have e := Option.some.inj h; subst e; exact ⟨rfl, rfl⟩)
    · have h := sv_if c4 h
      refine sv_iconst hC (v := 1) dX0_isFlock_21 (by decide) ?_
      refine sv_goto hC (tgt := 26) dX0_isFlock_22 (by decide) ?_
      exact sv_zret hC hQ dX0_isFlock_26 rfl (by have e := Option.some.inj h; subst e; exact ⟨rfl, rfl⟩)
set_option maxHeartbeats 2000000 in
theorem met_xdX0_isFlock {l : Launch} {s0 : State} {D : va_G} {dA : Nat → ClassId} (hF : sv_F s0 D dA) (z : XZ) (K : XK) (hz : SP s0 dA z K) (σ : MSt) (x1 : Int32) {r0 : Int32} (h : xdX0_isFlock K σ x1 = some r0) : sv_M l s0 D yX0_isFlock cX0_isFlock 2 (some .boolean) rm_X0_isFlock [.ref (z.1 0), .int x1] (SW dA z K σ) (sv_pI r0 (SW dA z K σ)) :=
  sv_met hF (by decide) (Nat.le_of_ble_eq_true rfl) (fun Γ hC hQ hmn e1 e2 e3 e4 => by
    subst e1 e2 e3 e4
    exact wk_xdX0_isFlock z K hz σ hC hQ x1 h)
set_option maxHeartbeats 2000000 in
theorem wk_xdX0_flock {Γ : sv_G} (z : XZ) (K : XK) (hz : SP (sg_s0 Γ) (sg_dA Γ) z K) (σ : MSt) (hC : sv_C Γ cX0_flock 2 RX0 (some .int) rm_X0_flock) {r0 : Int32} (hQ : sv_RQ Γ (sv_pI r0 (SW (sg_dA Γ) z K σ)) 0 0) (x1 : Int32) (h : xdX0_flock K σ x1 = some r0) : sv_V Γ (SW (sg_dA Γ) z K σ) 0 0 0 [(0, .ref (z.1 0)), (1, .int x1)] [] := by
  unfold xdX0_flock at h
  refine sv_aload_n hC dX0_flock_0 0 rfl rfl ?_
  refine sv_iload_n hC dX0_flock_1 1 rfl rfl ?_
  obtain ⟨r1, er1, h⟩ := sv_ob h
  refine sv_wVi (nn := 1) hC (met_xdX0_isFlock hC.F z K hz σ x1 er1) 0 1 (sx_at (by decide)) rfl rfl (lw_V q745 q747 qs7 q52 q748) (by decide +kernel) ⟨by decide, by decide⟩ ⟨rfl, rfl⟩ rfl rfl (Nat.le_of_ble_eq_true rfl) ⟨Nat.le_refl 0, Nat.le_refl 0⟩ dX0_flock_2 ?_
  refine sv_if_eq hC (tgt := 20) dX0_flock_5 (by decide) (fun c2 => ?_) (fun c2 => ?_)
  · have h := sv_it c2 h
    refine sv_bipush hC (v := (-2)) dX0_flock_20 (by decide) ?_
    exact sv_iret hC hQ dX0_flock_22 (by have e := Option.some.inj h; subst e; exact ⟨rfl, rfl⟩)
  · have h := sv_if c2 h
    refine sv_aload_n hC dX0_flock_8 0 rfl rfl ?_
    refine sv_get hC in_X0 0 (sx_at (by decide)) rfl 1 (by decide) q224 rfl (v := .ref (z.1 2)) rfl dX0_flock_9 ?_
    refine sv_iload_n hC dX0_flock_12 1 rfl rfl ?_
    obtain ⟨j3, ej3, h⟩ := sv_ob h
    refine sv_aldq hC 2 4 (sx_at (by decide)) rfl (j := j3) ej3 dX0_flock_13 ?_
    obtain ⟨v4, ev4, h⟩ := sv_ob h
    refine sx_pVB (r := v4) (nn := 0) hC hz ev4 (by have hb := hz.2.1 _ _ ev4; have hm := met_intValue (l := sg_l Γ) hC.F hz.2.2.2.2.2.2 hb.1; rw [hb.2] at hm; exact hm) (lw_V q749 q750 q751 q77 q752) (by decide +kernel) ⟨by decide, by decide⟩ ⟨rfl, rfl⟩ rfl rfl (Nat.le_of_ble_eq_true rfl) ⟨Nat.le_refl 0, Nat.le_refl 0⟩ dX0_flock_14 ?_
    refine sv_goto hC (tgt := 22) dX0_flock_17 (by decide) ?_
    exact sv_iret hC hQ dX0_flock_22 (by have e := Option.some.inj h; subst e; exact ⟨rfl, rfl⟩)
set_option maxHeartbeats 2000000 in
theorem met_xdX0_flock {l : Launch} {s0 : State} {D : va_G} {dA : Nat → ClassId} (hF : sv_F s0 D dA) (z : XZ) (K : XK) (hz : SP s0 dA z K) (σ : MSt) (x1 : Int32) {r0 : Int32} (h : xdX0_flock K σ x1 = some r0) : sv_M l s0 D yX0_flock cX0_flock 2 (some .int) rm_X0_flock [.ref (z.1 0), .int x1] (SW dA z K σ) (sv_pI r0 (SW dA z K σ)) :=
  sv_met hF (by decide) (Nat.le_of_ble_eq_true rfl) (fun Γ hC hQ hmn e1 e2 e3 e4 => by
    subst e1 e2 e3 e4
    exact wk_xdX0_flock z K hz σ hC hQ x1 h)
set_option maxHeartbeats 2000000 in
theorem wk_xdX0_isCoat {Γ : sv_G} (z : XZ) (K : XK) (hz : SP (sg_s0 Γ) (sg_dA Γ) z K) (σ : MSt) (hC : sv_C Γ cX0_isCoat 2 RX0 (some .boolean) rm_X0_isCoat) {r0 : Int32} (hQ : sv_RQ Γ (sv_pI r0 (SW (sg_dA Γ) z K σ)) 0 0) (x1 : Int32) (h : xdX0_isCoat K σ x1 = some r0) : sv_V Γ (SW (sg_dA Γ) z K σ) 0 0 0 [(0, .ref (z.1 0)), (1, .int x1)] [] := by
  unfold xdX0_isCoat at h
  refine sv_iload_n hC dX0_isCoat_0 1 rfl rfl ?_
  refine sv_i2l hC dX0_isCoat_1 ?_
  refine sv_lconst hC (v := 0) dX0_isCoat_2 (by decide) ?_
  refine sv_ldc2 hC dX0_isCoat_3 q740 ?_
  obtain ⟨r1, er1, h⟩ := sv_ob h
  refine sv_pSi (nn := 3) hC (met_xdX0_in hC.F x1.toInt64 0 3 er1) (lw_S q292 q293 q52 q294) (by decide +kernel) ⟨by decide, by decide⟩ ⟨rfl, rfl⟩ rfl rfl (Nat.le_of_ble_eq_true rfl) ⟨Nat.le_refl 0, Nat.le_refl 0⟩ dX0_isCoat_6 ?_
  refine sv_if_eq hC (tgt := 25) dX0_isCoat_9 (by decide) (fun c2 => ?_) (fun c2 => ?_)
  · have h := sv_it c2 h
    refine sv_iconst hC (v := 0) dX0_isCoat_25 (by decide) ?_
    exact sv_zret hC hQ dX0_isCoat_26 rfl (by have e := Option.some.inj h; subst e; exact ⟨rfl, rfl⟩)
  · have h := sv_if c2 h
    refine sv_aload_n hC dX0_isCoat_12 0 rfl rfl ?_
    refine sv_get hC in_X0 0 (sx_at (by decide)) rfl 2 (by decide) q227 rfl (v := .ref (z.1 3)) rfl dX0_isCoat_13 ?_
    refine sv_iload_n hC dX0_isCoat_16 1 rfl rfl ?_
    obtain ⟨j3, ej3, h⟩ := sv_ob h
    refine sv_aldq hC 3 5 (sx_at (by decide)) rfl (j := j3) ej3 dX0_isCoat_17 ?_
    refine sv_ifnullM hC (tgt := 25) dX0_isCoat_18 (by decide) (fun c4 => ?_) (fun c4 => ?_)
    · have h := sv_it c4 h
      refine sv_iconst hC (v := 0) dX0_isCoat_25 (by decide) ?_
      exact sv_zret hC hQ dX0_isCoat_26 rfl (by have e := Option.some.inj h; subst e; exact ⟨rfl, rfl⟩)
    · have h := sv_if c4 h
      refine sv_iconst hC (v := 1) dX0_isCoat_21 (by decide) ?_
      refine sv_goto hC (tgt := 26) dX0_isCoat_22 (by decide) ?_
      exact sv_zret hC hQ dX0_isCoat_26 rfl (by have e := Option.some.inj h; subst e; exact ⟨rfl, rfl⟩)
set_option maxHeartbeats 2000000 in
theorem met_xdX0_isCoat {l : Launch} {s0 : State} {D : va_G} {dA : Nat → ClassId} (hF : sv_F s0 D dA) (z : XZ) (K : XK) (hz : SP s0 dA z K) (σ : MSt) (x1 : Int32) {r0 : Int32} (h : xdX0_isCoat K σ x1 = some r0) : sv_M l s0 D yX0_isCoat cX0_isCoat 2 (some .boolean) rm_X0_isCoat [.ref (z.1 0), .int x1] (SW dA z K σ) (sv_pI r0 (SW dA z K σ)) :=
  sv_met hF (by decide) (Nat.le_of_ble_eq_true rfl) (fun Γ hC hQ hmn e1 e2 e3 e4 => by
    subst e1 e2 e3 e4
    exact wk_xdX0_isCoat z K hz σ hC hQ x1 h)
set_option maxHeartbeats 2000000 in
theorem wk_xdX0_coat {Γ : sv_G} (z : XZ) (K : XK) (hz : SP (sg_s0 Γ) (sg_dA Γ) z K) (σ : MSt) (hC : sv_C Γ cX0_coat 3 RX0 (some .int) rm_X0_coat) {r0 : Int32} (hQ : sv_RQ Γ (sv_pI r0 (SW (sg_dA Γ) z K σ)) 0 0) (x1 : Int32) (x2 : Int32) (h : xdX0_coat K σ x1 x2 = some r0) : sv_V Γ (SW (sg_dA Γ) z K σ) 0 0 0 [(0, .ref (z.1 0)), (1, .int x1), (2, .int x2)] [] := by
  unfold xdX0_coat at h
  refine sv_aload_n hC dX0_coat_0 0 rfl rfl ?_
  refine sv_iload_n hC dX0_coat_1 1 rfl rfl ?_
  obtain ⟨r1, er1, h⟩ := sv_ob h
  refine sv_wVi (nn := 1) hC (met_xdX0_isCoat hC.F z K hz σ x1 er1) 0 1 (sx_at (by decide)) rfl rfl (lw_V q757 q759 qs8 q52 q760) (by decide +kernel) ⟨by decide, by decide⟩ ⟨rfl, rfl⟩ rfl rfl (Nat.le_of_ble_eq_true rfl) ⟨Nat.le_refl 0, Nat.le_refl 0⟩ dX0_coat_2 ?_
  refine sv_if_ne hC (tgt := 11) dX0_coat_5 (by decide) (fun c2 => ?_) (fun c2 => ?_)
  · have h := sv_if c2 h
    refine sv_iload_n hC dX0_coat_11 2 rfl rfl ?_
    refine sv_if_ne hC (tgt := 27) dX0_coat_12 (by decide) (fun c3 => ?_) (fun c3 => ?_)
    · have h := sv_if c3 h
      refine sv_iload_n hC dX0_coat_27 2 rfl rfl ?_
      refine sv_iconst hC (v := 1) dX0_coat_28 (by decide) ?_
      refine sv_icmp_ne hC (tgt := 44) dX0_coat_29 (by decide) (fun c4 => ?_) (fun c4 => ?_)
      · have h := sv_if c4 h
        refine sv_bipush hC (v := (-3)) dX0_coat_44 (by decide) ?_
        exact sv_iret hC hQ dX0_coat_46 (by have e := Option.some.inj h; subst e; exact ⟨rfl, rfl⟩)
      · have h := sv_it c4 h
        refine sv_aload_n hC dX0_coat_32 0 rfl rfl ?_
        refine sv_get hC in_X0 0 (sx_at (by decide)) rfl 2 (by decide) q227 rfl (v := .ref (z.1 3)) rfl dX0_coat_33 ?_
        refine sv_iload_n hC dX0_coat_36 1 rfl rfl ?_
        obtain ⟨j5, ej5, h⟩ := sv_ob h
        refine sv_aldq hC 3 5 (sx_at (by decide)) rfl (j := j5) ej5 dX0_coat_37 ?_
        obtain ⟨v6, ev6, h⟩ := sv_ob h
        refine sx_cget hC hz ev6 1 (by decide) q115 rfl dX0_coat_38 ?_
        refine sv_goto hC (tgt := 46) dX0_coat_41 (by decide) ?_
        exact sv_iret hC hQ dX0_coat_46 (by have e := Option.some.inj h; subst e; exact ⟨rfl, rfl⟩)
    · have h := sv_it c3 h
      refine sv_aload_n hC dX0_coat_15 0 rfl rfl ?_
      refine sv_get hC in_X0 0 (sx_at (by decide)) rfl 2 (by decide) q227 rfl (v := .ref (z.1 3)) rfl dX0_coat_16 ?_
      refine sv_iload_n hC dX0_coat_19 1 rfl rfl ?_
      obtain ⟨j7, ej7, h⟩ := sv_ob h
      refine sv_aldq hC 3 5 (sx_at (by decide)) rfl (j := j7) ej7 dX0_coat_20 ?_
      obtain ⟨v8, ev8, h⟩ := sv_ob h
      refine sx_cget hC hz ev8 0 (by decide) q112 rfl dX0_coat_21 ?_
      refine sv_goto hC (tgt := 46) dX0_coat_24 (by decide) ?_
      exact sv_iret hC hQ dX0_coat_46 (by have e := Option.some.inj h; subst e; exact ⟨rfl, rfl⟩)
  · have h := sv_it c2 h
    refine sv_bipush hC (v := (-2)) dX0_coat_8 (by decide) ?_
    exact sv_iret hC hQ dX0_coat_10 (by have e := Option.some.inj h; subst e; exact ⟨rfl, rfl⟩)
set_option maxHeartbeats 2000000 in
theorem met_xdX0_coat {l : Launch} {s0 : State} {D : va_G} {dA : Nat → ClassId} (hF : sv_F s0 D dA) (z : XZ) (K : XK) (hz : SP s0 dA z K) (σ : MSt) (x1 : Int32) (x2 : Int32) {r0 : Int32} (h : xdX0_coat K σ x1 x2 = some r0) : sv_M l s0 D yX0_coat cX0_coat 3 (some .int) rm_X0_coat [.ref (z.1 0), .int x1, .int x2] (SW dA z K σ) (sv_pI r0 (SW dA z K σ)) :=
  sv_met hF (by decide) (Nat.le_of_ble_eq_true rfl) (fun Γ hC hQ hmn e1 e2 e3 e4 => by
    subst e1 e2 e3 e4
    exact wk_xdX0_coat z K hz σ hC hQ x1 x2 h)
set_option maxHeartbeats 2000000 in
theorem wk_xdX0_place_90 {Γ : sv_G} (z : XZ) (K : XK) (hz : SP (sg_s0 Γ) (sg_dA Γ) z K) (hC : sv_C Γ cX0_place 6 RX0 (some .int) rm_X0_place) {r0 : Int32 × MSt} (hQ : sv_RQ Γ (sv_pI r0.1 (SW (sg_dA Γ) z K r0.2)) 0 0)  (x2 : Int32) (x3 : Int32) (r4x : Nat) (σ : MSt) (hr4x : XA r4x 1 4) (h : xdX0_place_90 K x2 x3 r4x σ = some r0) : sv_V Γ (SW (sg_dA Γ) z K σ) 0 0 90 [(2, .int x2), (3, .int x3), (4, .ref (z.1 (r4x + 20)))] [] := by
  unfold xdX0_place_90 at h
  refine sv_aload hC dX0_place_90 2 rfl ?_
  refine sv_iload_n hC dX0_place_92 0 rfl rfl ?_
  obtain ⟨j13, ej13, h⟩ := sv_ob h
  refine sv_bald hC (r4x + 20) (f := σ.2 r4x) (sx_a hr4x) rfl (j := j13) ej13 dX0_place_93 ?_
  refine sv_istore hC dX0_place_94 (by decide) (lvq := [(5, .int (σ.2 r4x j13)), (2, .int x2), (3, .int x3), (4, .ref (z.1 (r4x + 20)))]) rfl ?_
  refine sv_aload hC dX0_place_96 3 rfl ?_
  refine sv_iload_n hC dX0_place_98 1 rfl rfl ?_
  refine sv_iload_n hC dX0_place_99 2 rfl rfl ?_
  refine sv_i2b hC dX0_place_100 ?_
  obtain ⟨j14, ej14, h⟩ := sv_ob h
  refine sv_bast hC (r4x + 20) (f := σ.2 r4x) (sx_a hr4x) rfl (j := j14) ej14 (Xq := SW (sg_dA Γ) z K (ms_a σ r4x j14 (vp_nar .byte x3.toInt8.toInt32))) (sx_as hr4x) dX0_place_101 ?_
  refine sv_iload hC dX0_place_102 0 rfl ?_
  exact sv_iret hC hQ dX0_place_104 (by have e := Option.some.inj h; subst e; exact ⟨rfl, rfl⟩)
set_option maxHeartbeats 2000000 in
theorem wk_xdX0_place_55b {Γ : sv_G} (z : XZ) (K : XK) (hz : SP (sg_s0 Γ) (sg_dA Γ) z K) (hC : sv_C Γ cX0_place 6 RX0 (some .int) rm_X0_place) {r0 : Int32 × MSt} (hQ : sv_RQ Γ (sv_pI r0.1 (SW (sg_dA Γ) z K r0.2)) 0 0)  (rk_55 : Int32 → Int32 → Nat → Int32 → MSt → Option (Int32 × MSt)) (hk_55 : ∀ (x2 : Int32) (x3 : Int32) (r4x : Nat) (x5 : Int32) (σ : MSt), XA r4x 1 4 → rk_55 x2 x3 r4x x5 σ = some r0 → sv_V Γ (SW (sg_dA Γ) z K σ) 0 0 55 [(2, .int x2), (3, .int x3), (4, .ref (z.1 (r4x + 20))), (5, .int x5)] []) (x2 : Int32) (x3 : Int32) (r4x : Nat) (x5 : Int32) (σ : MSt) (hr4x : XA r4x 1 4) (h : xdX0_place_55b K rk_55 x2 x3 r4x x5 σ = some r0) : sv_V Γ (SW (sg_dA Γ) z K σ) 0 0 55 [(2, .int x2), (3, .int x3), (4, .ref (z.1 (r4x + 20))), (5, .int x5)] [] := by
  unfold xdX0_place_55b at h
  refine sv_iload hC dX0_place_55 3 rfl ?_
  refine sv_iconst hC (v := 4) dX0_place_57 (by decide) ?_
  refine sv_icmp_ge hC (tgt := 90) dX0_place_58 (by decide) (fun c8 => ?_) (fun c8 => ?_)
  · have h := sv_it c8 h
    refine sv_loc [0, 1, 2] (lvq := [(2, .int x2), (3, .int x3), (4, .ref (z.1 (r4x + 20)))]) rfl ?_
    exact wk_xdX0_place_90 z K hz hC hQ x2 x3 r4x σ hr4x h
  · have h := sv_if c8 h
    refine sv_iload_n hC dX0_place_61 1 rfl rfl ?_
    refine sv_iconst hC (v := (-1)) dX0_place_62 (by decide) ?_
    refine sv_icmp_eq hC (tgt := 90) dX0_place_63 (by decide) (fun c9 => ?_) (fun c9 => ?_)
    · have h := sv_it c9 h
      refine sv_loc [0, 1, 2] (lvq := [(2, .int x2), (3, .int x3), (4, .ref (z.1 (r4x + 20)))]) rfl ?_
      exact wk_xdX0_place_90 z K hz hC hQ x2 x3 r4x σ hr4x h
    · have h := sv_if c9 h
      refine sv_iload hC dX0_place_66 3 rfl ?_
      refine sv_iload_n hC dX0_place_68 0 rfl rfl ?_
      refine sv_icmp_eq hC (tgt := 84) dX0_place_69 (by decide) (fun c10 => ?_) (fun c10 => ?_)
      · have h := sv_it c10 h
        refine sv_iinc hC (v := x5 + 1) dX0_place_84 3 rfl rfl (by decide) (lvq := [(5, .int (x5 + 1)), (2, .int x2), (3, .int x3), (4, .ref (z.1 (r4x + 20)))]) rfl ?_
        refine sv_goto hC (tgt := 55) dX0_place_87 (by decide) ?_
        refine sv_loc [1, 2, 3, 0] (lvq := [(2, .int x2), (3, .int x3), (4, .ref (z.1 (r4x + 20))), (5, .int (x5 + 1))]) rfl ?_
        exact hk_55 x2 x3 r4x (x5 + 1) σ hr4x h
      · have h := sv_if c10 h
        refine sv_aload hC dX0_place_72 2 rfl ?_
        refine sv_iload hC dX0_place_74 3 rfl ?_
        obtain ⟨j11, ej11, h⟩ := sv_ob h
        refine sv_bald hC (r4x + 20) (f := σ.2 r4x) (sx_a hr4x) rfl (j := j11) ej11 dX0_place_76 ?_
        refine sv_iload_n hC dX0_place_77 1 rfl rfl ?_
        refine sv_icmp_ne hC (tgt := 84) dX0_place_78 (by decide) (fun c12 => ?_) (fun c12 => ?_)
        · have h := sv_if c12 h
          refine sv_iinc hC (v := x5 + 1) dX0_place_84 3 rfl rfl (by decide) (lvq := [(5, .int (x5 + 1)), (2, .int x2), (3, .int x3), (4, .ref (z.1 (r4x + 20)))]) rfl ?_
          refine sv_goto hC (tgt := 55) dX0_place_87 (by decide) ?_
          refine sv_loc [1, 2, 3, 0] (lvq := [(2, .int x2), (3, .int x3), (4, .ref (z.1 (r4x + 20))), (5, .int (x5 + 1))]) rfl ?_
          exact hk_55 x2 x3 r4x (x5 + 1) σ hr4x h
        · have h := sv_it c12 h
          refine sv_bipush hC (v := (-4)) dX0_place_81 (by decide) ?_
          exact sv_iret hC hQ dX0_place_83 (by have e := Option.some.inj h; subst e; exact ⟨rfl, rfl⟩)
set_option maxHeartbeats 2000000 in
theorem wk_xdX0_place_55 {Γ : sv_G} (z : XZ) (K : XK) (hz : SP (sg_s0 Γ) (sg_dA Γ) z K) (hC : sv_C Γ cX0_place 6 RX0 (some .int) rm_X0_place) {r0 : Int32 × MSt} (hQ : sv_RQ Γ (sv_pI r0.1 (SW (sg_dA Γ) z K r0.2)) 0 0)  : ∀ (n : Nat) (x2 : Int32) (x3 : Int32) (r4x : Nat) (x5 : Int32) (σ : MSt) (hr4x : XA r4x 1 4) (h : xdX0_place_55 K n x2 x3 r4x x5 σ = some r0), sv_V Γ (SW (sg_dA Γ) z K σ) 0 0 55 [(2, .int x2), (3, .int x3), (4, .ref (z.1 (r4x + 20))), (5, .int x5)] [] := by
  intro n
  induction n with
  | zero => intro x2 x3 r4x x5 σ hr4x h; cases h
  | succ n ih => intro x2 x3 r4x x5 σ hr4x h; exact wk_xdX0_place_55b z K hz hC hQ (xdX0_place_55 K n) ih x2 x3 r4x x5 σ hr4x h
set_option maxHeartbeats 2000000 in
theorem wk_xdX0_place {Γ : sv_G} (z : XZ) (K : XK) (hz : SP (sg_s0 Γ) (sg_dA Γ) z K) (hC : sv_C Γ cX0_place 6 RX0 (some .int) rm_X0_place) {r0 : Int32 × MSt} (hQ : sv_RQ Γ (sv_pI r0.1 (SW (sg_dA Γ) z K r0.2)) 0 0) (x1 : Int32) (x2 : Int32) (x3 : Int32) (σ : MSt) (h : xdX0_place K x1 x2 x3 σ = some r0) : sv_V Γ (SW (sg_dA Γ) z K σ) 0 0 0 [(0, .ref (z.1 0)), (1, .int x1), (2, .int x2), (3, .int x3)] [] := by
  unfold xdX0_place at h
  refine sv_iload_n hC dX0_place_0 1 rfl rfl ?_
  refine sv_i2l hC dX0_place_1 ?_
  refine sv_lconst hC (v := 0) dX0_place_2 (by decide) ?_
  refine sv_ldc2 hC dX0_place_3 q765 ?_
  obtain ⟨r1, er1, h⟩ := sv_ob h
  refine sv_pSi (nn := 3) hC (met_xdX0_in hC.F x1.toInt64 0 20 er1) (lw_S q292 q293 q52 q294) (by decide +kernel) ⟨by decide, by decide⟩ ⟨rfl, rfl⟩ rfl rfl (Nat.le_of_ble_eq_true rfl) ⟨Nat.le_refl 0, Nat.le_refl 0⟩ dX0_place_6 ?_
  refine sv_if_eq hC (tgt := 38) dX0_place_9 (by decide) (fun c2 => ?_) (fun c2 => ?_)
  · have h := sv_it c2 h
    refine sv_bipush hC (v := (-2)) dX0_place_38 (by decide) ?_
    exact sv_iret hC hQ dX0_place_40 (by have e := Option.some.inj h; subst e; exact ⟨rfl, rfl⟩)
  · have h := sv_if c2 h
    refine sv_iload_n hC dX0_place_12 2 rfl rfl ?_
    refine sv_i2l hC dX0_place_13 ?_
    refine sv_lconst hC (v := 0) dX0_place_14 (by decide) ?_
    refine sv_ldc2 hC dX0_place_15 q740 ?_
    obtain ⟨r3, er3, h⟩ := sv_ob h
    refine sv_pSi (nn := 3) hC (met_xdX0_in hC.F x2.toInt64 0 3 er3) (lw_S q292 q293 q52 q294) (by decide +kernel) ⟨by decide, by decide⟩ ⟨rfl, rfl⟩ rfl rfl (Nat.le_of_ble_eq_true rfl) ⟨Nat.le_refl 0, Nat.le_refl 0⟩ dX0_place_18 ?_
    refine sv_if_eq hC (tgt := 38) dX0_place_21 (by decide) (fun c4 => ?_) (fun c4 => ?_)
    · have h := sv_it c4 h
      refine sv_bipush hC (v := (-2)) dX0_place_38 (by decide) ?_
      exact sv_iret hC hQ dX0_place_40 (by have e := Option.some.inj h; subst e; exact ⟨rfl, rfl⟩)
    · have h := sv_if c4 h
      refine sv_iload_n hC dX0_place_24 3 rfl rfl ?_
      refine sv_i2l hC dX0_place_25 ?_
      refine sv_ldc2 hC dX0_place_26 q766 ?_
      refine sv_ldc2 hC dX0_place_29 q740 ?_
      obtain ⟨r5, er5, h⟩ := sv_ob h
      refine sv_pSi (nn := 3) hC (met_xdX0_in hC.F x3.toInt64 (-1) 3 er5) (lw_S q292 q293 q52 q294) (by decide +kernel) ⟨by decide, by decide⟩ ⟨rfl, rfl⟩ rfl rfl (Nat.le_of_ble_eq_true rfl) ⟨Nat.le_refl 0, Nat.le_refl 0⟩ dX0_place_32 ?_
      refine sv_if_ne hC (tgt := 41) dX0_place_35 (by decide) (fun c6 => ?_) (fun c6 => ?_)
      · have h := sv_if c6 h
        refine sv_aload_n hC dX0_place_41 0 rfl rfl ?_
        refine sv_get hC in_X0 0 (sx_at (by decide)) rfl 8 (by decide) q235 rfl (v := .ref (z.1 5)) rfl dX0_place_42 ?_
        refine sv_get hC in_X3 (5 + 0) (sx_p (p := 0) (by decide)) rfl 0 (by decide) q135 rfl (v := .ref (z.1 (7 + 2 * 0))) rfl dX0_place_45 ?_
        refine sv_iload_n hC dX0_place_48 1 rfl rfl ?_
        obtain ⟨j7, ej7, h⟩ := sv_ob h
        refine sv_aldr hC (7 + 2 * 0) 6 (sx_ps (p := 0) (by decide)) rfl rfl (j := j7) (b := z.1 (j7 + (21 + 42 * 0) + 20)) ej7 rfl dX0_place_49 ?_
        refine sv_astore hC dX0_place_50 (by decide) (lvq := [(4, .ref (z.1 (j7 + (21 + 42 * 0) + 20))), (0, .ref (z.1 0)), (1, .int x1), (2, .int x2), (3, .int x3)]) rfl ?_
        refine sv_iconst hC (v := 0) dX0_place_52 (by decide) ?_
        refine sv_istore hC dX0_place_53 (by decide) (lvq := [(5, .int 0), (4, .ref (z.1 (j7 + (21 + 42 * 0) + 20))), (0, .ref (z.1 0)), (1, .int x1), (2, .int x2), (3, .int x3)]) rfl ?_
        refine sv_loc [4, 5, 1, 0] (lvq := [(2, .int x2), (3, .int x3), (4, .ref (z.1 (j7 + (21 + 42 * 0) + 20))), (5, .int 0)]) rfl ?_
        exact wk_xdX0_place_55 z K hz hC hQ sv_FU x2 x3 (j7 + (21 + 42 * 0)) 0 σ (XA_ps (p := 0) (d := j7) (by decide) (sv_ixl ej7)) h
      · have h := sv_it c6 h
        refine sv_bipush hC (v := (-2)) dX0_place_38 (by decide) ?_
        exact sv_iret hC hQ dX0_place_40 (by have e := Option.some.inj h; subst e; exact ⟨rfl, rfl⟩)
set_option maxHeartbeats 2000000 in
theorem met_xdX0_place {l : Launch} {s0 : State} {D : va_G} {dA : Nat → ClassId} (hF : sv_F s0 D dA) (z : XZ) (K : XK) (hz : SP s0 dA z K) (x1 : Int32) (x2 : Int32) (x3 : Int32) (σ : MSt) {r0 : Int32 × MSt} (h : xdX0_place K x1 x2 x3 σ = some r0) : sv_M l s0 D yX0_place cX0_place 6 (some .int) rm_X0_place [.ref (z.1 0), .int x1, .int x2, .int x3] (SW dA z K σ) (sv_pI r0.1 (SW dA z K r0.2)) :=
  sv_met hF (by decide) (Nat.le_of_ble_eq_true rfl) (fun Γ hC hQ hmn e1 e2 e3 e4 => by
    subst e1 e2 e3 e4
    exact wk_xdX0_place z K hz hC hQ x1 x2 x3 σ h)
set_option maxHeartbeats 2000000 in
theorem wk_xdX0_real_46 {Γ : sv_G} (z : XZ) (K : XK) (hz : SP (sg_s0 Γ) (sg_dA Γ) z K) (hC : sv_C Γ cX0_real 5 RX0 (some .int) rm_X0_real) {r0 : Int32 × MSt} (hQ : sv_RQ Γ (sv_pI r0.1 (SW (sg_dA Γ) z K r0.2)) 0 0)  (x1 : Int32) (x2 : Int32) (x3 : Int32) (t0 : Int32) (σ : MSt)  (h : xdX0_real_46 K x1 x2 x3 t0 σ = some r0) : sv_V Γ (SW (sg_dA Γ) z K σ) 0 0 46 [(0, .ref (z.1 0)), (1, .int x1), (2, .int x2), (3, .int x3)] [.int t0] := by
  unfold xdX0_real_46 at h
  refine sv_istore hC dX0_real_46 (by decide) (lvq := [(4, .int t0), (0, .ref (z.1 0)), (1, .int x1), (2, .int x2), (3, .int x3)]) rfl ?_
  refine sv_aload_n hC dX0_real_48 1 rfl rfl ?_
  refine sv_get hC in_X0 0 (sx_at (by decide)) rfl 8 (by decide) q235 rfl (v := .ref (z.1 5)) rfl dX0_real_49 ?_
  refine sv_get hC in_X3 (5 + 0) (sx_p (p := 0) (by decide)) rfl 1 (by decide) q138 rfl (v := .ref (z.1 (8 + 2 * 0))) rfl dX0_real_52 ?_
  refine sv_iload_n hC dX0_real_55 2 rfl rfl ?_
  obtain ⟨j8, ej8, h⟩ := sv_ob h
  refine sv_aldr hC (8 + 2 * 0) 7 (sx_pr (p := 0) (by decide)) rfl rfl (j := j8) (b := z.1 (j8 + (42 + 42 * 0) + 20)) ej8 rfl dX0_real_56 ?_
  refine sv_iload_n hC dX0_real_57 3 rfl rfl ?_
  refine sv_iload_n hC dX0_real_58 4 rfl rfl ?_
  obtain ⟨j9, ej9, h⟩ := sv_ob h
  refine sv_zast hC (j8 + (42 + 42 * 0) + 20) (f := σ.2 (j8 + (42 + 42 * 0))) (sx_a (XA_pr (p := 0) (d := j8) (by decide) (sv_ixl ej8))) rfl (j := j9) ej9 (Xq := SW (sg_dA Γ) z K (ms_a σ (j8 + (42 + 42 * 0)) j9 (vp_nar .boolean x3))) (sx_as (XA_pr (p := 0) (d := j8) (by decide) (sv_ixl ej8))) dX0_real_59 ?_
  refine sv_iload hC dX0_real_60 0 rfl ?_
  exact sv_iret hC hQ dX0_real_62 (by have e := Option.some.inj h; subst e; exact ⟨rfl, rfl⟩)
set_option maxHeartbeats 2000000 in
theorem wk_xdX0_real {Γ : sv_G} (z : XZ) (K : XK) (hz : SP (sg_s0 Γ) (sg_dA Γ) z K) (hC : sv_C Γ cX0_real 5 RX0 (some .int) rm_X0_real) {r0 : Int32 × MSt} (hQ : sv_RQ Γ (sv_pI r0.1 (SW (sg_dA Γ) z K r0.2)) 0 0) (x1 : Int32) (x2 : Int32) (x3 : Int32) (σ : MSt) (h : xdX0_real K x1 x2 x3 σ = some r0) : sv_V Γ (SW (sg_dA Γ) z K σ) 0 0 0 [(0, .ref (z.1 0)), (1, .int x1), (2, .int x2), (3, .int x3)] [] := by
  unfold xdX0_real at h
  refine sv_iload_n hC dX0_real_0 1 rfl rfl ?_
  refine sv_i2l hC dX0_real_1 ?_
  refine sv_lconst hC (v := 0) dX0_real_2 (by decide) ?_
  refine sv_ldc2 hC dX0_real_3 q765 ?_
  obtain ⟨r1, er1, h⟩ := sv_ob h
  refine sv_pSi (nn := 3) hC (met_xdX0_in hC.F x1.toInt64 0 20 er1) (lw_S q292 q293 q52 q294) (by decide +kernel) ⟨by decide, by decide⟩ ⟨rfl, rfl⟩ rfl rfl (Nat.le_of_ble_eq_true rfl) ⟨Nat.le_refl 0, Nat.le_refl 0⟩ dX0_real_6 ?_
  refine sv_if_eq hC (tgt := 24) dX0_real_9 (by decide) (fun c2 => ?_) (fun c2 => ?_)
  · have h := sv_it c2 h
    refine sv_bipush hC (v := (-2)) dX0_real_24 (by decide) ?_
    exact sv_iret hC hQ dX0_real_26 (by have e := Option.some.inj h; subst e; exact ⟨rfl, rfl⟩)
  · have h := sv_if c2 h
    refine sv_iload_n hC dX0_real_12 2 rfl rfl ?_
    refine sv_i2l hC dX0_real_13 ?_
    refine sv_lconst hC (v := 0) dX0_real_14 (by decide) ?_
    refine sv_ldc2 hC dX0_real_15 q740 ?_
    obtain ⟨r3, er3, h⟩ := sv_ob h
    refine sv_pSi (nn := 3) hC (met_xdX0_in hC.F x2.toInt64 0 3 er3) (lw_S q292 q293 q52 q294) (by decide +kernel) ⟨by decide, by decide⟩ ⟨rfl, rfl⟩ rfl rfl (Nat.le_of_ble_eq_true rfl) ⟨Nat.le_refl 0, Nat.le_refl 0⟩ dX0_real_18 ?_
    refine sv_if_ne hC (tgt := 27) dX0_real_21 (by decide) (fun c4 => ?_) (fun c4 => ?_)
    · have h := sv_if c4 h
      refine sv_aload_n hC dX0_real_27 0 rfl rfl ?_
      refine sv_get hC in_X0 0 (sx_at (by decide)) rfl 8 (by decide) q235 rfl (v := .ref (z.1 5)) rfl dX0_real_28 ?_
      refine sv_get hC in_X3 (5 + 0) (sx_p (p := 0) (by decide)) rfl 1 (by decide) q138 rfl (v := .ref (z.1 (8 + 2 * 0))) rfl dX0_real_31 ?_
      refine sv_iload_n hC dX0_real_34 1 rfl rfl ?_
      obtain ⟨j5, ej5, h⟩ := sv_ob h
      refine sv_aldr hC (8 + 2 * 0) 7 (sx_pr (p := 0) (by decide)) rfl rfl (j := j5) (b := z.1 (j5 + (42 + 42 * 0) + 20)) ej5 rfl dX0_real_35 ?_
      refine sv_iload_n hC dX0_real_36 2 rfl rfl ?_
      obtain ⟨j6, ej6, h⟩ := sv_ob h
      refine sv_zald hC (j5 + (42 + 42 * 0) + 20) (f := σ.2 (j5 + (42 + 42 * 0))) (sx_a (XA_pr (p := 0) (d := j5) (by decide) (sv_ixl ej5))) rfl (j := j6) ej6 dX0_real_37 ?_
      refine sv_if_eq hC (tgt := 45) dX0_real_38 (by decide) (fun c7 => ?_) (fun c7 => ?_)
      · have h := sv_it c7 h
        refine sv_iconst hC (v := 0) dX0_real_45 (by decide) ?_
        exact wk_xdX0_real_46 z K hz hC hQ x1 x2 x3 0 σ h
      · have h := sv_if c7 h
        refine sv_iconst hC (v := 1) dX0_real_41 (by decide) ?_
        refine sv_goto hC (tgt := 46) dX0_real_42 (by decide) ?_
        exact wk_xdX0_real_46 z K hz hC hQ x1 x2 x3 1 σ h
    · have h := sv_it c4 h
      refine sv_bipush hC (v := (-2)) dX0_real_24 (by decide) ?_
      exact sv_iret hC hQ dX0_real_26 (by have e := Option.some.inj h; subst e; exact ⟨rfl, rfl⟩)
set_option maxHeartbeats 2000000 in
theorem met_xdX0_real {l : Launch} {s0 : State} {D : va_G} {dA : Nat → ClassId} (hF : sv_F s0 D dA) (z : XZ) (K : XK) (hz : SP s0 dA z K) (x1 : Int32) (x2 : Int32) (x3 : Int32) (σ : MSt) {r0 : Int32 × MSt} (h : xdX0_real K x1 x2 x3 σ = some r0) : sv_M l s0 D yX0_real cX0_real 5 (some .int) rm_X0_real [.ref (z.1 0), .int x1, .int x2, .int x3] (SW dA z K σ) (sv_pI r0.1 (SW dA z K r0.2)) :=
  sv_met hF (by decide) (Nat.le_of_ble_eq_true rfl) (fun Γ hC hQ hmn e1 e2 e3 e4 => by
    subst e1 e2 e3 e4
    exact wk_xdX0_real z K hz hC hQ x1 x2 x3 σ h)
set_option maxHeartbeats 2000000 in
theorem wk_xdX0_isDay {Γ : sv_G} (z : XZ) (K : XK) (hz : SP (sg_s0 Γ) (sg_dA Γ) z K) (σ : MSt) (hC : sv_C Γ cX0_isDay 2 RX0 (some .boolean) rm_X0_isDay) {r0 : Int32} (hQ : sv_RQ Γ (sv_pI r0 (SW (sg_dA Γ) z K σ)) 0 0) (x1 : Int32) (h : xdX0_isDay K σ x1 = some r0) : sv_V Γ (SW (sg_dA Γ) z K σ) 0 0 0 [(0, .ref (z.1 0)), (1, .int x1)] [] := by
  unfold xdX0_isDay at h
  refine sv_iload_n hC dX0_isDay_0 1 rfl rfl ?_
  refine sv_i2l hC dX0_isDay_1 ?_
  refine sv_lconst hC (v := 0) dX0_isDay_2 (by decide) ?_
  refine sv_aload_n hC dX0_isDay_3 0 rfl rfl ?_
  refine sv_get hC in_X0 0 (sx_at (by decide)) rfl 7 (by decide) q234 rfl (v := .int (σ.1 7)) rfl dX0_isDay_4 ?_
  refine sv_iconst hC (v := 1) dX0_isDay_7 (by decide) ?_
  refine sv_isub hC dX0_isDay_8 ?_
  refine sv_i2l hC dX0_isDay_9 ?_
  obtain ⟨r1, er1, h⟩ := sv_ob h
  refine sv_pSi (nn := 3) hC (met_xdX0_in hC.F x1.toInt64 0 (((σ.1 7) - 1).toInt64) er1) (lw_S q292 q293 q52 q294) (by decide +kernel) ⟨by decide, by decide⟩ ⟨rfl, rfl⟩ rfl rfl (Nat.le_of_ble_eq_true rfl) ⟨Nat.le_refl 0, Nat.le_refl 0⟩ dX0_isDay_10 ?_
  obtain ⟨b2, eb2, h⟩ := sv_ob h
  obtain ⟨e1, e2⟩ := sv_zb_n eb2
  subst e1
  exact sv_zret hC hQ dX0_isDay_13 e2 (by have e := Option.some.inj h; subst e; exact ⟨rfl, rfl⟩)
set_option maxHeartbeats 2000000 in
theorem met_xdX0_isDay {l : Launch} {s0 : State} {D : va_G} {dA : Nat → ClassId} (hF : sv_F s0 D dA) (z : XZ) (K : XK) (hz : SP s0 dA z K) (σ : MSt) (x1 : Int32) {r0 : Int32} (h : xdX0_isDay K σ x1 = some r0) : sv_M l s0 D yX0_isDay cX0_isDay 2 (some .boolean) rm_X0_isDay [.ref (z.1 0), .int x1] (SW dA z K σ) (sv_pI r0 (SW dA z K σ)) :=
  sv_met hF (by decide) (Nat.le_of_ble_eq_true rfl) (fun Γ hC hQ hmn e1 e2 e3 e4 => by
    subst e1 e2 e3 e4
    exact wk_xdX0_isDay z K hz σ hC hQ x1 h)
set_option maxHeartbeats 2000000 in
theorem wk_xdX4_begin_2_66b {Γ : sv_G} (z : XZ) (K : XK) (hz : SP (sg_s0 Γ) (sg_dA Γ) z K) (w : Nat) (hw : w < 3) (hC : sv_C Γ cX4_begin_2 5 RX4 none rm_X4_begin_2) {r0 : MSt} (hQ : sv_RQ Γ (sv_pV (SW (sg_dA Γ) z K r0)) 0 0) (rk_58 : Int32 → MSt → Option MSt) (hk_58 : ∀ (x3 : Int32) (σ : MSt), rk_58 x3 σ = some r0 → sv_V Γ (SW (sg_dA Γ) z K σ) 0 0 58 [(0, .ref (z.1 (11 + w))), (3, .int x3)] []) (rk_66 : Int32 → Int32 → MSt → Option MSt) (hk_66 : ∀ (x3 : Int32) (x4 : Int32) (σ : MSt), rk_66 x3 x4 σ = some r0 → sv_V Γ (SW (sg_dA Γ) z K σ) 0 0 66 [(0, .ref (z.1 (11 + w))), (3, .int x3), (4, .int x4)] []) (x3 : Int32) (x4 : Int32) (σ : MSt)  (h : xdX4_begin_2_66b K w rk_58 rk_66 x3 x4 σ = some r0) : sv_V Γ (SW (sg_dA Γ) z K σ) 0 0 66 [(0, .ref (z.1 (11 + w))), (3, .int x3), (4, .int x4)] [] := by
  unfold xdX4_begin_2_66b at h
  refine sv_iload hC dX4_begin_2_66 2 rfl ?_
  refine sv_iconst hC (v := 4) dX4_begin_2_68 (by decide) ?_
  refine sv_icmp_ge hC (tgt := 116) dX4_begin_2_69 (by decide) (fun c9 => ?_) (fun c9 => ?_)
  · have h := sv_it c9 h
    refine sv_iinc hC (v := x3 + 1) dX4_begin_2_116 1 rfl rfl (by decide) (lvq := [(3, .int (x3 + 1)), (0, .ref (z.1 (11 + w))), (4, .int x4)]) rfl ?_
    refine sv_goto hC (tgt := 58) dX4_begin_2_119 (by decide) ?_
    refine sv_loc [1, 0] (lvq := [(0, .ref (z.1 (11 + w))), (3, .int (x3 + 1))]) rfl ?_
    exact hk_58 (x3 + 1) σ h
  · have h := sv_if c9 h
    refine sv_aload_n hC dX4_begin_2_72 0 rfl rfl ?_
    refine sv_get hC in_X4 (11 + w) (sx_w (w := w) hw) rfl 1 (by decide) q157 rfl (v := .ref (z.1 (14 + w))) rfl dX4_begin_2_73 ?_
    refine sv_iload_n hC dX4_begin_2_76 1 rfl rfl ?_
    obtain ⟨j10, ej10, h⟩ := sv_ob h
    refine sv_aldr hC (14 + w) 8 (sx_fw (w := w) hw) rfl rfl (j := j10) (b := z.1 (j10 + (7 * w + 1) + 20)) ej10 rfl dX4_begin_2_77 ?_
    refine sv_iload hC dX4_begin_2_78 2 rfl ?_
    refine sv_aload_n hC dX4_begin_2_80 0 rfl rfl ?_
    refine sv_get hC in_X4 (11 + w) (sx_w (w := w) hw) rfl 6 (by decide) q165 rfl (v := .ref (z.1 0)) rfl dX4_begin_2_81 ?_
    refine sv_iload hC dX4_begin_2_84 2 rfl ?_
    obtain ⟨r11, er11, h⟩ := sv_ob h
    refine sv_wVNi (nn := 1) hC (met_xdX0_isCoat hC.F z K hz σ x4 er11) 0 1 (sx_at (by decide)) rfl rfl q792 (lw_meth q760) q759 qs8 q52 (by decide +kernel) ⟨by decide, by decide⟩ ⟨rfl, rfl⟩ rfl rfl (Nat.le_of_ble_eq_true rfl) ⟨Nat.le_refl 0, Nat.le_refl 0⟩ dX4_begin_2_86 ?_
    refine sv_if_eq hC (tgt := 108) dX4_begin_2_89 (by decide) (fun c12 => ?_) (fun c12 => ?_)
    · have h := sv_it c12 h
      refine sv_iconst hC (v := 0) dX4_begin_2_108 (by decide) ?_
      obtain ⟨j13, ej13, h⟩ := sv_ob h
      refine sv_iast hC (j10 + (7 * w + 1) + 20) (f := σ.2 (j10 + (7 * w + 1))) (sx_a (XA_fr (w := w) (b := j10) hw (sv_ixl ej10))) rfl (j := j13) ej13 (Xq := SW (sg_dA Γ) z K (ms_a σ (j10 + (7 * w + 1)) j13 0)) (sx_as (XA_fr (w := w) (b := j10) hw (sv_ixl ej10))) dX4_begin_2_109 ?_
      refine sv_iinc hC (v := x4 + 1) dX4_begin_2_110 2 rfl rfl (by decide) (lvq := [(4, .int (x4 + 1)), (0, .ref (z.1 (11 + w))), (3, .int x3)]) rfl ?_
      refine sv_goto hC (tgt := 66) dX4_begin_2_113 (by decide) ?_
      refine sv_loc [1, 2, 0] (lvq := [(0, .ref (z.1 (11 + w))), (3, .int x3), (4, .int (x4 + 1))]) rfl ?_
      exact hk_66 x3 (x4 + 1) (ms_a σ (j10 + (7 * w + 1)) j13 0) h
    · have h := sv_if c12 h
      refine sv_aload_n hC dX4_begin_2_92 0 rfl rfl ?_
      refine sv_get hC in_X4 (11 + w) (sx_w (w := w) hw) rfl 6 (by decide) q165 rfl (v := .ref (z.1 0)) rfl dX4_begin_2_93 ?_
      refine sv_getN hC in_X0 0 (sx_at (by decide)) rfl 2 (by decide) q226 rfl (v := .ref (z.1 3)) rfl dX4_begin_2_96 ?_
      refine sv_iload hC dX4_begin_2_99 2 rfl ?_
      obtain ⟨j14, ej14, h⟩ := sv_ob h
      refine sv_aldq hC 3 5 (sx_at (by decide)) rfl (j := j14) ej14 dX4_begin_2_101 ?_
      obtain ⟨v15, ev15, h⟩ := sv_ob h
      refine sx_cget hC hz ev15 0 (by decide) q111 rfl dX4_begin_2_102 ?_
      refine sv_goto hC (tgt := 109) dX4_begin_2_105 (by decide) ?_
      obtain ⟨j16, ej16, h⟩ := sv_ob h
      refine sv_iast hC (j10 + (7 * w + 1) + 20) (f := σ.2 (j10 + (7 * w + 1))) (sx_a (XA_fr (w := w) (b := j10) hw (sv_ixl ej10))) rfl (j := j16) ej16 (Xq := SW (sg_dA Γ) z K (ms_a σ (j10 + (7 * w + 1)) j16 v15.1)) (sx_as (XA_fr (w := w) (b := j10) hw (sv_ixl ej10))) dX4_begin_2_109 ?_
      refine sv_iinc hC (v := x4 + 1) dX4_begin_2_110 2 rfl rfl (by decide) (lvq := [(4, .int (x4 + 1)), (0, .ref (z.1 (11 + w))), (3, .int x3)]) rfl ?_
      refine sv_goto hC (tgt := 66) dX4_begin_2_113 (by decide) ?_
      refine sv_loc [1, 2, 0] (lvq := [(0, .ref (z.1 (11 + w))), (3, .int x3), (4, .int (x4 + 1))]) rfl ?_
      exact hk_66 x3 (x4 + 1) (ms_a σ (j10 + (7 * w + 1)) j16 v15.1) h
set_option maxHeartbeats 2000000 in
theorem wk_xdX4_begin_2_66 {Γ : sv_G} (z : XZ) (K : XK) (hz : SP (sg_s0 Γ) (sg_dA Γ) z K) (w : Nat) (hw : w < 3) (hC : sv_C Γ cX4_begin_2 5 RX4 none rm_X4_begin_2) {r0 : MSt} (hQ : sv_RQ Γ (sv_pV (SW (sg_dA Γ) z K r0)) 0 0) (rk_58 : Int32 → MSt → Option MSt) (hk_58 : ∀ (x3 : Int32) (σ : MSt), rk_58 x3 σ = some r0 → sv_V Γ (SW (sg_dA Γ) z K σ) 0 0 58 [(0, .ref (z.1 (11 + w))), (3, .int x3)] []) : ∀ (n : Nat) (x3 : Int32) (x4 : Int32) (σ : MSt)  (h : xdX4_begin_2_66 K w rk_58 n x3 x4 σ = some r0), sv_V Γ (SW (sg_dA Γ) z K σ) 0 0 66 [(0, .ref (z.1 (11 + w))), (3, .int x3), (4, .int x4)] [] := by
  intro n
  induction n with
  | zero => intro x3 x4 σ h; cases h
  | succ n ih => intro x3 x4 σ h; exact wk_xdX4_begin_2_66b z K hz w hw hC hQ rk_58 hk_58 (xdX4_begin_2_66 K w rk_58 n) ih x3 x4 σ h
set_option maxHeartbeats 2000000 in
theorem wk_xdX4_begin_2_58b {Γ : sv_G} (z : XZ) (K : XK) (hz : SP (sg_s0 Γ) (sg_dA Γ) z K) (w : Nat) (hw : w < 3) (hC : sv_C Γ cX4_begin_2 5 RX4 none rm_X4_begin_2) {r0 : MSt} (hQ : sv_RQ Γ (sv_pV (SW (sg_dA Γ) z K r0)) 0 0)  (rk_58 : Int32 → MSt → Option MSt) (hk_58 : ∀ (x3 : Int32) (σ : MSt), rk_58 x3 σ = some r0 → sv_V Γ (SW (sg_dA Γ) z K σ) 0 0 58 [(0, .ref (z.1 (11 + w))), (3, .int x3)] []) (x3 : Int32) (σ : MSt)  (h : xdX4_begin_2_58b K w rk_58 x3 σ = some r0) : sv_V Γ (SW (sg_dA Γ) z K σ) 0 0 58 [(0, .ref (z.1 (11 + w))), (3, .int x3)] [] := by
  unfold xdX4_begin_2_58b at h
  refine sv_iload_n hC dX4_begin_2_58 1 rfl rfl ?_
  refine sv_iconst hC (v := 4) dX4_begin_2_59 (by decide) ?_
  refine sv_icmp_ge hC (tgt := 122) dX4_begin_2_60 (by decide) (fun c8 => ?_) (fun c8 => ?_)
  · have h := sv_it c8 h
    exact sv_vret hC hQ dX4_begin_2_122 (by have e := Option.some.inj h; subst e; exact ⟨rfl, rfl⟩)
  · have h := sv_if c8 h
    refine sv_iconst hC (v := 0) dX4_begin_2_63 (by decide) ?_
    refine sv_istore hC dX4_begin_2_64 (by decide) (lvq := [(4, .int 0), (0, .ref (z.1 (11 + w))), (3, .int x3)]) rfl ?_
    refine sv_loc [1, 2, 0] (lvq := [(0, .ref (z.1 (11 + w))), (3, .int x3), (4, .int 0)]) rfl ?_
    exact wk_xdX4_begin_2_66 z K hz w hw hC hQ rk_58 hk_58 sv_FU x3 0 σ h
set_option maxHeartbeats 2000000 in
theorem wk_xdX4_begin_2_58 {Γ : sv_G} (z : XZ) (K : XK) (hz : SP (sg_s0 Γ) (sg_dA Γ) z K) (w : Nat) (hw : w < 3) (hC : sv_C Γ cX4_begin_2 5 RX4 none rm_X4_begin_2) {r0 : MSt} (hQ : sv_RQ Γ (sv_pV (SW (sg_dA Γ) z K r0)) 0 0)  : ∀ (n : Nat) (x3 : Int32) (σ : MSt)  (h : xdX4_begin_2_58 K w n x3 σ = some r0), sv_V Γ (SW (sg_dA Γ) z K σ) 0 0 58 [(0, .ref (z.1 (11 + w))), (3, .int x3)] [] := by
  intro n
  induction n with
  | zero => intro x3 σ h; cases h
  | succ n ih => intro x3 σ h; exact wk_xdX4_begin_2_58b z K hz w hw hC hQ (xdX4_begin_2_58 K w n) ih x3 σ h
set_option maxHeartbeats 2000000 in
theorem wk_xdX4_begin_2_12b {Γ : sv_G} (z : XZ) (K : XK) (hz : SP (sg_s0 Γ) (sg_dA Γ) z K) (w : Nat) (hw : w < 3) (hC : sv_C Γ cX4_begin_2 5 RX4 none rm_X4_begin_2) {r0 : MSt} (hQ : sv_RQ Γ (sv_pV (SW (sg_dA Γ) z K r0)) 0 0)  (rk_12 : Int32 → MSt → Option MSt) (hk_12 : ∀ (x3 : Int32) (σ : MSt), rk_12 x3 σ = some r0 → sv_V Γ (SW (sg_dA Γ) z K σ) 0 0 12 [(0, .ref (z.1 (11 + w))), (3, .int x3)] []) (x3 : Int32) (σ : MSt)  (h : xdX4_begin_2_12b K w rk_12 x3 σ = some r0) : sv_V Γ (SW (sg_dA Γ) z K σ) 0 0 12 [(0, .ref (z.1 (11 + w))), (3, .int x3)] [] := by
  unfold xdX4_begin_2_12b at h
  refine sv_iload_n hC dX4_begin_2_12 1 rfl rfl ?_
  refine sv_iconst hC (v := 4) dX4_begin_2_13 (by decide) ?_
  refine sv_icmp_ge hC (tgt := 56) dX4_begin_2_14 (by decide) (fun c1 => ?_) (fun c1 => ?_)
  · have h := sv_it c1 h
    refine sv_iconst hC (v := 0) dX4_begin_2_56 (by decide) ?_
    refine sv_istore_n hC dX4_begin_2_57 rfl (by decide) (lvq := [(3, .int 0), (0, .ref (z.1 (11 + w)))]) rfl ?_
    refine sv_loc [1, 0] (lvq := [(0, .ref (z.1 (11 + w))), (3, .int 0)]) rfl ?_
    exact wk_xdX4_begin_2_58 z K hz w hw hC hQ sv_FU 0 σ h
  · have h := sv_if c1 h
    refine sv_aload_n hC dX4_begin_2_17 0 rfl rfl ?_
    refine sv_get hC in_X4 (11 + w) (sx_w (w := w) hw) rfl 0 (by decide) q155 rfl (v := .ref (z.1 (7 * w + 20))) rfl dX4_begin_2_18 ?_
    refine sv_iload_n hC dX4_begin_2_21 1 rfl rfl ?_
    refine sv_aload_n hC dX4_begin_2_22 0 rfl rfl ?_
    refine sv_get hC in_X4 (11 + w) (sx_w (w := w) hw) rfl 6 (by decide) q165 rfl (v := .ref (z.1 0)) rfl dX4_begin_2_23 ?_
    refine sv_iload_n hC dX4_begin_2_26 1 rfl rfl ?_
    obtain ⟨r2, er2, h⟩ := sv_ob h
    refine sv_wVNi (nn := 1) hC (met_xdX0_isField hC.F z K hz σ x3 er2) 0 1 (sx_at (by decide)) rfl rfl q791 (lw_meth q739) q738 qs6 q52 (by decide +kernel) ⟨by decide, by decide⟩ ⟨rfl, rfl⟩ rfl rfl (Nat.le_of_ble_eq_true rfl) ⟨Nat.le_refl 0, Nat.le_refl 0⟩ dX4_begin_2_27 ?_
    refine sv_if_eq hC (tgt := 48) dX4_begin_2_30 (by decide) (fun c3 => ?_) (fun c3 => ?_)
    · have h := sv_it c3 h
      refine sv_iconst hC (v := 0) dX4_begin_2_48 (by decide) ?_
      obtain ⟨j4, ej4, h⟩ := sv_ob h
      refine sv_iast hC (7 * w + 20) (f := σ.2 (7 * w)) (sx_a (XA_sd (w := w) hw)) rfl (j := j4) ej4 (Xq := SW (sg_dA Γ) z K (ms_a σ (7 * w) j4 0)) (sx_as (XA_sd (w := w) hw)) dX4_begin_2_49 ?_
      refine sv_iinc hC (v := x3 + 1) dX4_begin_2_50 1 rfl rfl (by decide) (lvq := [(3, .int (x3 + 1)), (0, .ref (z.1 (11 + w)))]) rfl ?_
      refine sv_goto hC (tgt := 12) dX4_begin_2_53 (by decide) ?_
      refine sv_loc [1, 0] (lvq := [(0, .ref (z.1 (11 + w))), (3, .int (x3 + 1))]) rfl ?_
      exact hk_12 (x3 + 1) (ms_a σ (7 * w) j4 0) h
    · have h := sv_if c3 h
      refine sv_aload_n hC dX4_begin_2_33 0 rfl rfl ?_
      refine sv_get hC in_X4 (11 + w) (sx_w (w := w) hw) rfl 6 (by decide) q165 rfl (v := .ref (z.1 0)) rfl dX4_begin_2_34 ?_
      refine sv_getN hC in_X0 0 (sx_at (by decide)) rfl 0 (by decide) q223 rfl (v := .ref (z.1 1)) rfl dX4_begin_2_37 ?_
      refine sv_iload_n hC dX4_begin_2_40 1 rfl rfl ?_
      obtain ⟨j5, ej5, h⟩ := sv_ob h
      refine sv_aldq hC 1 3 (sx_at (by decide)) rfl (j := j5) ej5 dX4_begin_2_41 ?_
      obtain ⟨v6, ev6, h⟩ := sv_ob h
      refine sx_fget hC hz ev6 0 (by decide) q693 rfl dX4_begin_2_42 ?_
      refine sv_goto hC (tgt := 49) dX4_begin_2_45 (by decide) ?_
      obtain ⟨j7, ej7, h⟩ := sv_ob h
      refine sv_iast hC (7 * w + 20) (f := σ.2 (7 * w)) (sx_a (XA_sd (w := w) hw)) rfl (j := j7) ej7 (Xq := SW (sg_dA Γ) z K (ms_a σ (7 * w) j7 v6.1)) (sx_as (XA_sd (w := w) hw)) dX4_begin_2_49 ?_
      refine sv_iinc hC (v := x3 + 1) dX4_begin_2_50 1 rfl rfl (by decide) (lvq := [(3, .int (x3 + 1)), (0, .ref (z.1 (11 + w)))]) rfl ?_
      refine sv_goto hC (tgt := 12) dX4_begin_2_53 (by decide) ?_
      refine sv_loc [1, 0] (lvq := [(0, .ref (z.1 (11 + w))), (3, .int (x3 + 1))]) rfl ?_
      exact hk_12 (x3 + 1) (ms_a σ (7 * w) j7 v6.1) h
set_option maxHeartbeats 2000000 in
theorem wk_xdX4_begin_2_12 {Γ : sv_G} (z : XZ) (K : XK) (hz : SP (sg_s0 Γ) (sg_dA Γ) z K) (w : Nat) (hw : w < 3) (hC : sv_C Γ cX4_begin_2 5 RX4 none rm_X4_begin_2) {r0 : MSt} (hQ : sv_RQ Γ (sv_pV (SW (sg_dA Γ) z K r0)) 0 0)  : ∀ (n : Nat) (x3 : Int32) (σ : MSt)  (h : xdX4_begin_2_12 K w n x3 σ = some r0), sv_V Γ (SW (sg_dA Γ) z K σ) 0 0 12 [(0, .ref (z.1 (11 + w))), (3, .int x3)] [] := by
  intro n
  induction n with
  | zero => intro x3 σ h; cases h
  | succ n ih => intro x3 σ h; exact wk_xdX4_begin_2_12b z K hz w hw hC hQ (xdX4_begin_2_12 K w n) ih x3 σ h
set_option maxHeartbeats 2000000 in
theorem wk_xdX4_begin_2 {Γ : sv_G} (z : XZ) (K : XK) (hz : SP (sg_s0 Γ) (sg_dA Γ) z K) (w : Nat) (hw : w < 3) (hC : sv_C Γ cX4_begin_2 5 RX4 none rm_X4_begin_2) {r0 : MSt} (hQ : sv_RQ Γ (sv_pV (SW (sg_dA Γ) z K r0)) 0 0) (x1 : Int32) (x2 : Int32) (σ : MSt) (h : xdX4_begin_2 K w x1 x2 σ = some r0) : sv_V Γ (SW (sg_dA Γ) z K σ) 0 0 0 [(0, .ref (z.1 (11 + w))), (1, .int x1), (2, .int x2)] [] := by
  unfold xdX4_begin_2 at h
  refine sv_aload_n hC dX4_begin_2_0 0 rfl rfl ?_
  refine sv_iload_n hC dX4_begin_2_1 1 rfl rfl ?_
  refine sv_put hC in_X4 tyX4 tyX4_ok nmX4 (11 + w) (sx_w (w := w) hw) rfl 4 (by decide) q163 rfl rfl rfl rfl (Nat.le_of_ble_eq_true rfl) (Xq := SW (sg_dA Γ) z K (ms_s σ (20 + 2 * w) x1)) (sx_w4 (w := w) hw) dX4_begin_2_2 ?_
  refine sv_aload_n hC dX4_begin_2_5 0 rfl rfl ?_
  refine sv_iload_n hC dX4_begin_2_6 2 rfl rfl ?_
  refine sv_put hC in_X4 tyX4 tyX4_ok nmX4 (11 + w) (sx_w (w := w) hw) rfl 5 (by decide) q164 rfl rfl rfl rfl (Nat.le_of_ble_eq_true rfl) (Xq := SW (sg_dA Γ) z K (ms_s (ms_s σ (20 + 2 * w) x1) (21 + 2 * w) x2)) (sx_w5 (w := w) hw) dX4_begin_2_7 ?_
  refine sv_iconst hC (v := 0) dX4_begin_2_10 (by decide) ?_
  refine sv_istore_n hC dX4_begin_2_11 rfl (by decide) (lvq := [(3, .int 0), (0, .ref (z.1 (11 + w))), (1, .int x1), (2, .int x2)]) rfl ?_
  refine sv_loc [1, 0] (lvq := [(0, .ref (z.1 (11 + w))), (3, .int 0)]) rfl ?_
  exact wk_xdX4_begin_2_12 z K hz w hw hC hQ sv_FU 0 (ms_s (ms_s σ (20 + 2 * w) x1) (21 + 2 * w) x2) h
set_option maxHeartbeats 2000000 in
theorem met_xdX4_begin_2 {l : Launch} {s0 : State} {D : va_G} {dA : Nat → ClassId} (hF : sv_F s0 D dA) (z : XZ) (K : XK) (hz : SP s0 dA z K) (w : Nat) (hw : w < 3) (x1 : Int32) (x2 : Int32) (σ : MSt) {r0 : MSt} (h : xdX4_begin_2 K w x1 x2 σ = some r0) : sv_M l s0 D yX4_begin_2 cX4_begin_2 5 none rm_X4_begin_2 [.ref (z.1 (11 + w)), .int x1, .int x2] (SW dA z K σ) (sv_pV (SW dA z K r0)) :=
  sv_met hF (by decide) (Nat.le_of_ble_eq_true rfl) (fun Γ hC hQ hmn e1 e2 e3 e4 => by
    subst e1 e2 e3 e4
    exact wk_xdX4_begin_2 z K hz w hw hC hQ x1 x2 σ h)
set_option maxHeartbeats 2000000 in
theorem wk_xdX4_begin {Γ : sv_G} (z : XZ) (K : XK) (hz : SP (sg_s0 Γ) (sg_dA Γ) z K) (w : Nat) (hw : w < 3) (hC : sv_C Γ cX4_begin 1 RX4 none rm_X4_begin) {r0 : MSt} (hQ : sv_RQ Γ (sv_pV (SW (sg_dA Γ) z K r0)) 0 0) (σ : MSt) (h : xdX4_begin K w σ = some r0) : sv_V Γ (SW (sg_dA Γ) z K σ) 0 0 0 [(0, .ref (z.1 (11 + w)))] [] := by
  unfold xdX4_begin at h
  refine sv_aload_n hC dX4_begin_0 0 rfl rfl ?_
  refine sv_iconst hC (v := (-1)) dX4_begin_1 (by decide) ?_
  refine sv_aload_n hC dX4_begin_2 0 rfl rfl ?_
  refine sv_get hC in_X4 (11 + w) (sx_w (w := w) hw) rfl 6 (by decide) q165 rfl (v := .ref (z.1 0)) rfl dX4_begin_3 ?_
  refine sv_getN hC in_X0 0 (sx_at (by decide)) rfl 4 (by decide) q230 rfl (v := .int (σ.1 4)) rfl dX4_begin_6 ?_
  obtain ⟨s1, es1, h⟩ := sv_ob h
  refine sv_wVv (nn := 2) hC (met_xdX4_begin_2 hC.F z K hz w hw (-1) (σ.1 4) σ es1) (11 + w) 5 (sx_w (w := w) hw) rfl rfl (lw_V q787 q788 q789 q57 q790) (by decide +kernel) ⟨by decide, by decide⟩ ⟨rfl, rfl⟩ rfl rfl (Nat.le_of_ble_eq_true rfl) ⟨Nat.le_refl 0, Nat.le_refl 0⟩ dX4_begin_9 ?_
  exact sv_vret hC hQ dX4_begin_12 (by have e := Option.some.inj h; subst e; exact ⟨rfl, rfl⟩)
set_option maxHeartbeats 2000000 in
theorem met_xdX4_begin {l : Launch} {s0 : State} {D : va_G} {dA : Nat → ClassId} (hF : sv_F s0 D dA) (z : XZ) (K : XK) (hz : SP s0 dA z K) (w : Nat) (hw : w < 3) (σ : MSt) {r0 : MSt} (h : xdX4_begin K w σ = some r0) : sv_M l s0 D yX4_begin cX4_begin 1 none rm_X4_begin [.ref (z.1 (11 + w))] (SW dA z K σ) (sv_pV (SW dA z K r0)) :=
  sv_met hF (by decide) (Nat.le_of_ble_eq_true rfl) (fun Γ hC hQ hmn e1 e2 e3 e4 => by
    subst e1 e2 e3 e4
    exact wk_xdX4_begin z K hz w hw hC hQ σ h)
set_option maxHeartbeats 2000000 in
theorem wk_jd_J0_fill_2_5b {Γ : sv_G} (a0 : Nat) (n0 : Nat) (hC : sv_C Γ cJ0_fill_2 4 RJ0 none rm_J0_fill_2) {r0 : Nat → Int32} (hQ : sv_RQ Γ (sv_pV [(a0, .inl ((sg_dA Γ) 0, n0, .inl r0))]) 0 0)  (rk_5 : Int32 → Int32 → Int32 → (Nat → Int32) → Option (Nat → Int32)) (hk_5 : ∀ (x1 : Int32) (x2 : Int32) (x3 : Int32) (σ : Nat → Int32), rk_5 x1 x2 x3 σ = some r0 → sv_V Γ ([(a0, .inl ((sg_dA Γ) 0, n0, .inl σ))]) 0 0 5 [(0, .ref a0), (1, .int x1), (2, .int x2), (3, .int x3)] []) (x1 : Int32) (x2 : Int32) (x3 : Int32) (σ : Nat → Int32)  (h : jd_J0_fill_2_5b n0 rk_5 x1 x2 x3 σ = some r0) : sv_V Γ ([(a0, .inl ((sg_dA Γ) 0, n0, .inl σ))]) 0 0 5 [(0, .ref a0), (1, .int x1), (2, .int x2), (3, .int x3)] [] := by
  unfold jd_J0_fill_2_5b at h
  refine sv_iload_n hC dJ0_fill_2_5 2 rfl rfl ?_
  refine sv_iload_n hC dJ0_fill_2_6 3 rfl rfl ?_
  refine sv_icmp_ge hC (tgt := 20) dJ0_fill_2_7 (by decide) (fun c1 => ?_) (fun c1 => ?_)
  · have h := sv_it c1 h
    exact sv_vret hC hQ dJ0_fill_2_20 (by have e := Option.some.inj h; subst e; exact ⟨rfl, rfl⟩)
  · have h := sv_if c1 h
    refine sv_aload_n hC dJ0_fill_2_10 0 rfl rfl ?_
    refine sv_iload_n hC dJ0_fill_2_11 2 rfl rfl ?_
    refine sv_iload_n hC dJ0_fill_2_12 1 rfl rfl ?_
    obtain ⟨j2, ej2, h⟩ := sv_ob h
    refine sv_iast hC 0 (f := σ) rfl rfl (j := j2) ej2 (Xq := [(a0, .inl ((sg_dA Γ) 0, n0, .inl (upd σ j2 x1)))]) rfl dJ0_fill_2_13 ?_
    refine sv_iinc hC (v := x2 + 1) dJ0_fill_2_14 2 rfl rfl (by decide) (lvq := [(2, .int (x2 + 1)), (0, .ref a0), (1, .int x1), (3, .int x3)]) rfl ?_
    refine sv_goto hC (tgt := 5) dJ0_fill_2_17 (by decide) ?_
    refine sv_loc [1, 2, 0, 3] (lvq := [(0, .ref a0), (1, .int x1), (2, .int (x2 + 1)), (3, .int x3)]) rfl ?_
    exact hk_5 x1 (x2 + 1) x3 (upd σ j2 x1) h
set_option maxHeartbeats 2000000 in
theorem wk_jd_J0_fill_2_5 {Γ : sv_G} (a0 : Nat) (n0 : Nat) (hC : sv_C Γ cJ0_fill_2 4 RJ0 none rm_J0_fill_2) {r0 : Nat → Int32} (hQ : sv_RQ Γ (sv_pV [(a0, .inl ((sg_dA Γ) 0, n0, .inl r0))]) 0 0)  : ∀ (n : Nat) (x1 : Int32) (x2 : Int32) (x3 : Int32) (σ : Nat → Int32)  (h : jd_J0_fill_2_5 n0 n x1 x2 x3 σ = some r0), sv_V Γ ([(a0, .inl ((sg_dA Γ) 0, n0, .inl σ))]) 0 0 5 [(0, .ref a0), (1, .int x1), (2, .int x2), (3, .int x3)] [] := by
  intro n
  induction n with
  | zero => intro x1 x2 x3 σ h; cases h
  | succ n ih => intro x1 x2 x3 σ h; exact wk_jd_J0_fill_2_5b a0 n0 hC hQ (jd_J0_fill_2_5 n0 n) ih x1 x2 x3 σ h
set_option maxHeartbeats 2000000 in
theorem wk_jd_J0_fill_2 {Γ : sv_G} (a0 : Nat) (n0 : Nat) (hC : sv_C Γ cJ0_fill_2 4 RJ0 none rm_J0_fill_2) {r0 : Nat → Int32} (hQ : sv_RQ Γ (sv_pV [(a0, .inl ((sg_dA Γ) 0, n0, .inl r0))]) 0 0) (x1 : Int32) (σ : Nat → Int32) (h : jd_J0_fill_2 n0 x1 σ = some r0) : sv_V Γ ([(a0, .inl ((sg_dA Γ) 0, n0, .inl σ))]) 0 0 0 [(0, .ref a0), (1, .int x1)] [] := by
  unfold jd_J0_fill_2 at h
  refine sv_iconst hC (v := 0) dJ0_fill_2_0 (by decide) ?_
  refine sv_istore_n hC dJ0_fill_2_1 rfl (by decide) (lvq := [(2, .int 0), (0, .ref a0), (1, .int x1)]) rfl ?_
  refine sv_aload_n hC dJ0_fill_2_2 1 rfl rfl ?_
  refine sv_alen hC 0 0 rfl rfl (v := Int32.ofNat n0) rfl dJ0_fill_2_3 ?_
  refine sv_istore_n hC dJ0_fill_2_4 rfl (by decide) (lvq := [(3, .int (Int32.ofNat n0)), (2, .int 0), (0, .ref a0), (1, .int x1)]) rfl ?_
  refine sv_loc [2, 3, 1, 0] (lvq := [(0, .ref a0), (1, .int x1), (2, .int 0), (3, .int (Int32.ofNat n0))]) rfl ?_
  exact wk_jd_J0_fill_2_5 a0 n0 hC hQ sv_FU x1 0 (Int32.ofNat n0) σ h
set_option maxHeartbeats 2000000 in
theorem met_jd_J0_fill_2 {l : Launch} {s0 : State} {D : va_G} {dA : Nat → ClassId} (hF : sv_F s0 D dA) (a0 : Nat) (n0 : Nat) (x1 : Int32) (σ : Nat → Int32) {r0 : Nat → Int32} (h : jd_J0_fill_2 n0 x1 σ = some r0) : sv_M l s0 D yJ0_fill_2 cJ0_fill_2 4 none rm_J0_fill_2 [.ref a0, .int x1] ([(a0, .inl (dA 0, n0, .inl σ))]) (sv_pV [(a0, .inl (dA 0, n0, .inl r0))]) :=
  sv_met hF (by decide) (Nat.le_of_ble_eq_true rfl) (fun Γ hC hQ hmn e1 e2 e3 e4 => by
    subst e1 e2 e3 e4
    exact wk_jd_J0_fill_2 a0 n0 hC hQ x1 σ h)
set_option maxHeartbeats 2000000 in
theorem wk_xdX4_coatAt {Γ : sv_G} (z : XZ) (K : XK) (hz : SP (sg_s0 Γ) (sg_dA Γ) z K) (w : Nat) (ra : Nat) (hw : w < 3) (hra : XA ra 1 4) (σ : MSt) (hC : sv_C Γ cX4_coatAt 3 RX4 (some .int) rm_X4_coatAt) {r0 : Int32} (hQ : sv_RQ Γ (sv_pI r0 (SW (sg_dA Γ) z K σ)) 0 0) (x2 : Int32) (h : xdX4_coatAt K w ra σ x2 = some r0) : sv_V Γ (SW (sg_dA Γ) z K σ) 0 0 0 [(0, .ref (z.1 (11 + w))), (1, .ref (z.1 (ra + 20))), (2, .int x2)] [] := by
  unfold xdX4_coatAt at h
  refine sv_aload_n hC dX4_coatAt_0 0 rfl rfl ?_
  refine sv_get hC in_X4 (11 + w) (sx_w (w := w) hw) rfl 6 (by decide) q165 rfl (v := .ref (z.1 0)) rfl dX4_coatAt_1 ?_
  refine sv_aload_n hC dX4_coatAt_4 1 rfl rfl ?_
  refine sv_iload_n hC dX4_coatAt_5 2 rfl rfl ?_
  obtain ⟨j1, ej1, h⟩ := sv_ob h
  refine sv_bald hC (ra + 20) (f := σ.2 ra) (sx_a hra) rfl (j := j1) ej1 dX4_coatAt_6 ?_
  obtain ⟨r2, er2, h⟩ := sv_ob h
  refine sv_wVNi (nn := 1) hC (met_xdX0_isCoat hC.F z K hz σ (σ.2 ra j1) er2) 0 1 (sx_at (by decide)) rfl rfl q792 (lw_meth q760) q759 qs8 q52 (by decide +kernel) ⟨by decide, by decide⟩ ⟨rfl, rfl⟩ rfl rfl (Nat.le_of_ble_eq_true rfl) ⟨Nat.le_refl 0, Nat.le_refl 0⟩ dX4_coatAt_7 ?_
  refine sv_if_eq hC (tgt := 19) dX4_coatAt_10 (by decide) (fun c3 => ?_) (fun c3 => ?_)
  · have h := sv_it c3 h
    refine sv_iconst hC (v := (-1)) dX4_coatAt_19 (by decide) ?_
    exact sv_iret hC hQ dX4_coatAt_20 (by have e := Option.some.inj h; subst e; exact ⟨rfl, rfl⟩)
  · have h := sv_if c3 h
    refine sv_aload_n hC dX4_coatAt_13 1 rfl rfl ?_
    refine sv_iload_n hC dX4_coatAt_14 2 rfl rfl ?_
    obtain ⟨j4, ej4, h⟩ := sv_ob h
    refine sv_bald hC (ra + 20) (f := σ.2 ra) (sx_a hra) rfl (j := j4) ej4 dX4_coatAt_15 ?_
    refine sv_goto hC (tgt := 20) dX4_coatAt_16 (by decide) ?_
    exact sv_iret hC hQ dX4_coatAt_20 (by have e := Option.some.inj h; subst e; exact ⟨rfl, rfl⟩)
set_option maxHeartbeats 2000000 in
theorem met_xdX4_coatAt {l : Launch} {s0 : State} {D : va_G} {dA : Nat → ClassId} (hF : sv_F s0 D dA) (z : XZ) (K : XK) (hz : SP s0 dA z K) (w : Nat) (ra : Nat) (hw : w < 3) (hra : XA ra 1 4) (σ : MSt) (x2 : Int32) {r0 : Int32} (h : xdX4_coatAt K w ra σ x2 = some r0) : sv_M l s0 D yX4_coatAt cX4_coatAt 3 (some .int) rm_X4_coatAt [.ref (z.1 (11 + w)), .ref (z.1 (ra + 20)), .int x2] (SW dA z K σ) (sv_pI r0 (SW dA z K σ)) :=
  sv_met hF (by decide) (Nat.le_of_ble_eq_true rfl) (fun Γ hC hQ hmn e1 e2 e3 e4 => by
    subst e1 e2 e3 e4
    exact wk_xdX4_coatAt z K hz w ra hw hra σ hC hQ x2 h)
set_option maxHeartbeats 2000000 in
theorem wk_xdX4_worth {Γ : sv_G} (z : XZ) (K : XK) (hz : SP (sg_s0 Γ) (sg_dA Γ) z K) (w : Nat) (ra : Nat) (hw : w < 3) (hra : XA ra 1 4) (σ : MSt) (hC : sv_C Γ cX4_worth 5 RX4 (some .int) rm_X4_worth) {r0 : Int32} (hQ : sv_RQ Γ (sv_pI r0 (SW (sg_dA Γ) z K σ)) 0 0) (x2 : Int32) (x3 : Int32) (h : xdX4_worth K w ra σ x2 x3 = some r0) : sv_V Γ (SW (sg_dA Γ) z K σ) 0 0 0 [(0, .ref (z.1 (11 + w))), (1, .ref (z.1 (ra + 20))), (2, .int x2), (3, .int x3)] [] := by
  unfold xdX4_worth at h
  refine sv_aload_n hC dX4_worth_0 0 rfl rfl ?_
  refine sv_aload_n hC dX4_worth_1 1 rfl rfl ?_
  refine sv_iload_n hC dX4_worth_2 3 rfl rfl ?_
  obtain ⟨r1, er1, h⟩ := sv_ob h
  refine sv_wVi (nn := 2) hC (met_xdX4_coatAt hC.F z K hz w ra hw hra σ x3 er1) (11 + w) 5 (sx_w (w := w) hw) rfl rfl (lw_V q805 q807 qs11 q57 q808) (by decide +kernel) ⟨by decide, by decide⟩ ⟨rfl, rfl⟩ rfl rfl (Nat.le_of_ble_eq_true rfl) ⟨Nat.le_refl 0, Nat.le_refl 0⟩ dX4_worth_3 ?_
  refine sv_istore hC dX4_worth_6 (by decide) (lvq := [(4, .int r1), (0, .ref (z.1 (11 + w))), (1, .ref (z.1 (ra + 20))), (2, .int x2), (3, .int x3)]) rfl ?_
  refine sv_bipush hC (v := 10) dX4_worth_8 (by decide) ?_
  refine sv_aload_n hC dX4_worth_10 1 rfl rfl ?_
  refine sv_get hC in_X4 (11 + w) (sx_w (w := w) hw) rfl 0 (by decide) q155 rfl (v := .ref (z.1 (7 * w + 20))) rfl dX4_worth_11 ?_
  refine sv_iload_n hC dX4_worth_14 4 rfl rfl ?_
  obtain ⟨j2, ej2, h⟩ := sv_ob h
  refine sv_iald hC (7 * w + 20) (f := σ.2 (7 * w)) (sx_a (XA_sd (w := w) hw)) rfl (j := j2) ej2 dX4_worth_15 ?_
  refine sv_aload_n hC dX4_worth_16 1 rfl rfl ?_
  refine sv_get hC in_X4 (11 + w) (sx_w (w := w) hw) rfl 6 (by decide) q165 rfl (v := .ref (z.1 0)) rfl dX4_worth_17 ?_
  refine sv_getN hC in_X0 0 (sx_at (by decide)) rfl 1 (by decide) q225 rfl (v := .ref (z.1 2)) rfl dX4_worth_20 ?_
  refine sv_iload_n hC dX4_worth_23 3 rfl rfl ?_
  obtain ⟨j3, ej3, h⟩ := sv_ob h
  refine sv_aldq hC 2 4 (sx_at (by decide)) rfl (j := j3) ej3 dX4_worth_24 ?_
  obtain ⟨v4, ev4, h⟩ := sv_ob h
  refine sx_pVB (r := v4) (nn := 0) hC hz ev4 (by have hb := hz.2.1 _ _ ev4; have hm := met_intValue (l := sg_l Γ) hC.F hz.2.2.2.2.2.2 hb.1; rw [hb.2] at hm; exact hm) (lw_V q809 q750 q751 q77 q752) (by decide +kernel) ⟨by decide, by decide⟩ ⟨rfl, rfl⟩ rfl rfl (Nat.le_of_ble_eq_true rfl) ⟨Nat.le_refl 0, Nat.le_refl 0⟩ dX4_worth_25 ?_
  refine sv_mmin hC q810 q422 q69 q423 (by decide) (Nat.le_of_ble_eq_true rfl) ⟨Nat.le_refl 0, Nat.le_refl 0⟩ dX4_worth_28 ?_
  refine sv_imul hC dX4_worth_31 ?_
  refine sv_aload_n hC dX4_worth_32 1 rfl rfl ?_
  refine sv_get hC in_X4 (11 + w) (sx_w (w := w) hw) rfl 6 (by decide) q165 rfl (v := .ref (z.1 0)) rfl dX4_worth_33 ?_
  refine sv_getN hC in_X0 0 (sx_at (by decide)) rfl 0 (by decide) q223 rfl (v := .ref (z.1 1)) rfl dX4_worth_36 ?_
  refine sv_iload_n hC dX4_worth_39 4 rfl rfl ?_
  obtain ⟨j5, ej5, h⟩ := sv_ob h
  refine sv_aldq hC 1 3 (sx_at (by decide)) rfl (j := j5) ej5 dX4_worth_40 ?_
  obtain ⟨v6, ev6, h⟩ := sv_ob h
  refine sx_fget hC hz ev6 1 (by decide) q696 rfl dX4_worth_41 ?_
  refine sv_isub hC dX4_worth_44 ?_
  refine sv_iload hC dX4_worth_45 0 rfl ?_
  refine sv_iconst hC (v := (-1)) dX4_worth_47 (by decide) ?_
  refine sv_icmp_ne hC (tgt := 55) dX4_worth_48 (by decide) (fun c7 => ?_) (fun c7 => ?_)
  · have h := sv_if c7 h
    refine sv_aload_n hC dX4_worth_55 1 rfl rfl ?_
    refine sv_get hC in_X4 (11 + w) (sx_w (w := w) hw) rfl 1 (by decide) q157 rfl (v := .ref (z.1 (14 + w))) rfl dX4_worth_56 ?_
    refine sv_iload_n hC dX4_worth_59 3 rfl rfl ?_
    obtain ⟨j8, ej8, h⟩ := sv_ob h
    refine sv_aldr hC (14 + w) 8 (sx_fw (w := w) hw) rfl rfl (j := j8) (b := z.1 (j8 + (7 * w + 1) + 20)) ej8 rfl dX4_worth_60 ?_
    refine sv_iload hC dX4_worth_61 0 rfl ?_
    obtain ⟨j9, ej9, h⟩ := sv_ob h
    refine sv_iald hC (j8 + (7 * w + 1) + 20) (f := σ.2 (j8 + (7 * w + 1))) (sx_a (XA_fr (w := w) (b := j8) hw (sv_ixl ej8))) rfl (j := j9) ej9 dX4_worth_63 ?_
    refine sv_isub hC dX4_worth_64 ?_
    exact sv_iret hC hQ dX4_worth_65 (by have e := Option.some.inj h; subst e; exact ⟨rfl, rfl⟩)
  · have h := sv_it c7 h
    refine sv_iconst hC (v := 0) dX4_worth_51 (by decide) ?_
    refine sv_goto hC (tgt := 64) dX4_worth_52 (by decide) ?_
    refine sv_isub hC dX4_worth_64 ?_
    exact sv_iret hC hQ dX4_worth_65 (by have e := Option.some.inj h; subst e; exact ⟨rfl, rfl⟩)
set_option maxHeartbeats 2000000 in
theorem met_xdX4_worth {l : Launch} {s0 : State} {D : va_G} {dA : Nat → ClassId} (hF : sv_F s0 D dA) (z : XZ) (K : XK) (hz : SP s0 dA z K) (w : Nat) (ra : Nat) (hw : w < 3) (hra : XA ra 1 4) (σ : MSt) (x2 : Int32) (x3 : Int32) {r0 : Int32} (h : xdX4_worth K w ra σ x2 x3 = some r0) : sv_M l s0 D yX4_worth cX4_worth 5 (some .int) rm_X4_worth [.ref (z.1 (11 + w)), .ref (z.1 (ra + 20)), .int x2, .int x3] (SW dA z K σ) (sv_pI r0 (SW dA z K σ)) :=
  sv_met hF (by decide) (Nat.le_of_ble_eq_true rfl) (fun Γ hC hQ hmn e1 e2 e3 e4 => by
    subst e1 e2 e3 e4
    exact wk_xdX4_worth z K hz w ra hw hra σ hC hQ x2 x3 h)
set_option maxHeartbeats 2000000 in
theorem wk_xdX1_after {Γ : sv_G} (b0 : Nat) (hC : sv_C Γ cX1_after 3 RX1 (some .int) rm_X1_after) {r0 : Int32} (hQ : sv_RQ Γ (sv_pI r0 []) 0 0) (x1 : Int32) (x2 : Int32) (h : xdX1_after x1 x2 = some r0) : sv_V Γ ([]) 0 0 0 [(0, .ref b0), (1, .int x1), (2, .int x2)] [] := by
  unfold xdX1_after at h
  refine sv_iload_n hC dX1_after_0 1 rfl rfl ?_
  refine sv_bipush hC (v := 100) dX1_after_1 (by decide) ?_
  refine sv_iload_n hC dX1_after_3 2 rfl rfl ?_
  refine sv_isub hC dX1_after_4 ?_
  refine sv_imul hC dX1_after_5 ?_
  refine sv_bipush hC (v := 100) dX1_after_6 (by decide) ?_
  refine sv_idiv hC dX1_after_8 (by decide) ?_
  exact sv_iret hC hQ dX1_after_9 (by have e := Option.some.inj h; subst e; exact ⟨rfl, rfl⟩)
set_option maxHeartbeats 2000000 in
theorem met_xdX1_after {l : Launch} {s0 : State} {D : va_G} {dA : Nat → ClassId} (hF : sv_F s0 D dA) (b0 : Nat) (x1 : Int32) (x2 : Int32) {r0 : Int32} (h : xdX1_after x1 x2 = some r0) : sv_M l s0 D yX1_after cX1_after 3 (some .int) rm_X1_after [.ref b0, .int x1, .int x2] ([]) (sv_pI r0 []) :=
  sv_met hF (by decide) (Nat.le_of_ble_eq_true rfl) (fun Γ hC hQ hmn e1 e2 e3 e4 => by
    subst e1 e2 e3 e4
    exact wk_xdX1_after b0 hC hQ x1 x2 h)
set_option maxHeartbeats 2000000 in
theorem wk_xdX2_after {Γ : sv_G} (z : XZ) (K : XK) (hz : SP (sg_s0 Γ) (sg_dA Γ) z K) (σ : MSt) (hC : sv_C Γ cX2_after 3 RX2 (some .int) rm_X2_after) {r0 : Int32} (hQ : sv_RQ Γ (sv_pI r0 (SW (sg_dA Γ) z K σ)) 0 0) (x1 : Int32) (x2 : Int32) (h : xdX2_after K σ x1 x2 = some r0) : sv_V Γ (SW (sg_dA Γ) z K σ) 0 0 0 [(0, .ref (z.1 4)), (1, .int x1), (2, .int x2)] [] := by
  unfold xdX2_after at h
  refine sv_aload_n hC dX2_after_0 0 rfl rfl ?_
  refine sv_iload_n hC dX2_after_1 1 rfl rfl ?_
  refine sv_iload_n hC dX2_after_2 2 rfl rfl ?_
  obtain ⟨r1, er1, h⟩ := sv_ob h
  refine sv_pSU (nn := 2) hC (met_xdX1_after hC.F (z.1 4) x1 x2 er1) 4 3 (sx_at (by decide)) rfl rfl (lw_app (lw_in5 q818 q814 q120 q812 q53) (lw_meth q819)) (by decide +kernel) ⟨by decide, by decide⟩ ⟨rfl, rfl⟩ rfl rfl (Nat.le_of_ble_eq_true rfl) ⟨Nat.le_refl 0, Nat.le_refl 0⟩ dX2_after_3 ?_
  refine sv_aload_n hC dX2_after_6 0 rfl rfl ?_
  refine sv_getS hC in_X2 4 (sx_at (by decide)) rfl 0 (by decide) q109 q110 (v := .int 999) rfl dX2_after_7 ?_
  refine sv_mmax hC q820 q404 q69 q405 (by decide) (Nat.le_of_ble_eq_true rfl) ⟨Nat.le_refl 0, Nat.le_refl 0⟩ dX2_after_10 ?_
  exact sv_iret hC hQ dX2_after_13 (by have e := Option.some.inj h; subst e; exact ⟨rfl, rfl⟩)
set_option maxHeartbeats 2000000 in
theorem met_xdX2_after {l : Launch} {s0 : State} {D : va_G} {dA : Nat → ClassId} (hF : sv_F s0 D dA) (z : XZ) (K : XK) (hz : SP s0 dA z K) (σ : MSt) (x1 : Int32) (x2 : Int32) {r0 : Int32} (h : xdX2_after K σ x1 x2 = some r0) : sv_M l s0 D yX2_after cX2_after 3 (some .int) rm_X2_after [.ref (z.1 4), .int x1, .int x2] (SW dA z K σ) (sv_pI r0 (SW dA z K σ)) :=
  sv_met hF (by decide) (Nat.le_of_ble_eq_true rfl) (fun Γ hC hQ hmn e1 e2 e3 e4 => by
    subst e1 e2 e3 e4
    exact wk_xdX2_after z K hz σ hC hQ x1 x2 h)
set_option maxHeartbeats 2000000 in
theorem wk_xdX4_roost_103b {Γ : sv_G} (z : XZ) (K : XK) (hz : SP (sg_s0 Γ) (sg_dA Γ) z K) (w : Nat) (hw : w < 3) (hC : sv_C Γ cX4_roost 5 RX4 none rm_X4_roost) {r0 : MSt} (hQ : sv_RQ Γ (sv_pV (SW (sg_dA Γ) z K r0)) 0 0) (rk_2 : Int32 → MSt → Option MSt) (hk_2 : ∀ (x1 : Int32) (σ : MSt), rk_2 x1 σ = some r0 → sv_V Γ (SW (sg_dA Γ) z K σ) 0 0 2 [(0, .ref (z.1 (11 + w))), (1, .int x1)] []) (rk_103 : Int32 → Int32 → Int32 → Int32 → MSt → Option MSt) (hk_103 : ∀ (x1 : Int32) (x2 : Int32) (x3 : Int32) (x4 : Int32) (σ : MSt), rk_103 x1 x2 x3 x4 σ = some r0 → sv_V Γ (SW (sg_dA Γ) z K σ) 0 0 103 [(0, .ref (z.1 (11 + w))), (1, .int x1), (2, .int x2), (3, .int x3), (4, .int x4)] []) (x1 : Int32) (x2 : Int32) (x3 : Int32) (x4 : Int32) (σ : MSt)  (h : xdX4_roost_103b K w rk_2 rk_103 x1 x2 x3 x4 σ = some r0) : sv_V Γ (SW (sg_dA Γ) z K σ) 0 0 103 [(0, .ref (z.1 (11 + w))), (1, .int x1), (2, .int x2), (3, .int x3), (4, .int x4)] [] := by
  unfold xdX4_roost_103b at h
  refine sv_iload hC dX4_roost_103 4 rfl ?_
  refine sv_iconst hC (v := 4) dX4_roost_105 (by decide) ?_
  refine sv_icmp_ge hC (tgt := 168) dX4_roost_106 (by decide) (fun c13 => ?_) (fun c13 => ?_)
  · have h := sv_it c13 h
    refine sv_iinc hC (v := x1 + 1) dX4_roost_168 1 rfl rfl (by decide) (lvq := [(1, .int (x1 + 1)), (0, .ref (z.1 (11 + w))), (2, .int x2), (3, .int x3), (4, .int x4)]) rfl ?_
    refine sv_goto hC (tgt := 2) dX4_roost_171 (by decide) ?_
    refine sv_loc [1, 0] (lvq := [(0, .ref (z.1 (11 + w))), (1, .int (x1 + 1))]) rfl ?_
    exact hk_2 (x1 + 1) σ h
  · have h := sv_if c13 h
    refine sv_iload_n hC dX4_roost_109 3 rfl rfl ?_
    refine sv_if_le hC (tgt := 168) dX4_roost_110 (by decide) (fun c14 => ?_) (fun c14 => ?_)
    · have h := sv_it c14 h
      refine sv_iinc hC (v := x1 + 1) dX4_roost_168 1 rfl rfl (by decide) (lvq := [(1, .int (x1 + 1)), (0, .ref (z.1 (11 + w))), (2, .int x2), (3, .int x3), (4, .int x4)]) rfl ?_
      refine sv_goto hC (tgt := 2) dX4_roost_171 (by decide) ?_
      refine sv_loc [1, 0] (lvq := [(0, .ref (z.1 (11 + w))), (1, .int (x1 + 1))]) rfl ?_
      exact hk_2 (x1 + 1) σ h
    · have h := sv_if c14 h
      refine sv_aload_n hC dX4_roost_113 0 rfl rfl ?_
      refine sv_get hC in_X4 (11 + w) (sx_w (w := w) hw) rfl 1 (by decide) q157 rfl (v := .ref (z.1 (14 + w))) rfl dX4_roost_114 ?_
      refine sv_iload hC dX4_roost_117 4 rfl ?_
      obtain ⟨j15, ej15, h⟩ := sv_ob h
      refine sv_aldr hC (14 + w) 8 (sx_fw (w := w) hw) rfl rfl (j := j15) (b := z.1 (j15 + (7 * w + 1) + 20)) ej15 rfl dX4_roost_119 ?_
      refine sv_iload_n hC dX4_roost_120 1 rfl rfl ?_
      refine sv_dup2_11 hC dX4_roost_121 rfl rfl ?_
      obtain ⟨j16, ej16, h⟩ := sv_ob h
      refine sv_iald hC (j15 + (7 * w + 1) + 20) (f := σ.2 (j15 + (7 * w + 1))) (sx_a (XA_fr (w := w) (b := j15) hw (sv_ixl ej15))) rfl (j := j16) ej16 dX4_roost_122 ?_
      refine sv_aload_n hC dX4_roost_123 0 rfl rfl ?_
      refine sv_get hC in_X4 (11 + w) (sx_w (w := w) hw) rfl 6 (by decide) q165 rfl (v := .ref (z.1 0)) rfl dX4_roost_124 ?_
      refine sv_iload hC dX4_roost_127 4 rfl ?_
      obtain ⟨r17, er17, h⟩ := sv_ob h
      refine sv_wVNi (nn := 1) hC (met_xdX0_isFlock hC.F z K hz σ x4 er17) 0 1 (sx_at (by decide)) rfl rfl q800 (lw_meth q748) q747 qs7 q52 (by decide +kernel) ⟨by decide, by decide⟩ ⟨rfl, rfl⟩ rfl rfl (Nat.le_of_ble_eq_true rfl) ⟨Nat.le_refl 0, Nat.le_refl 0⟩ dX4_roost_129 ?_
      refine sv_if_eq hC (tgt := 159) dX4_roost_132 (by decide) (fun c18 => ?_) (fun c18 => ?_)
      · have h := sv_it c18 h
        refine sv_iconst hC (v := 0) dX4_roost_159 (by decide) ?_
        refine sv_iadd hC dX4_roost_160 ?_
        obtain ⟨j19, ej19, h⟩ := sv_ob h
        refine sv_iast hC (j15 + (7 * w + 1) + 20) (f := σ.2 (j15 + (7 * w + 1))) (sx_a (XA_fr (w := w) (b := j15) hw (sv_ixl ej15))) rfl (j := j19) ej19 (Xq := SW (sg_dA Γ) z K (ms_a σ (j15 + (7 * w + 1)) j19 ((σ.2 (j15 + (7 * w + 1)) j16) + 0))) (sx_as (XA_fr (w := w) (b := j15) hw (sv_ixl ej15))) dX4_roost_161 ?_
        refine sv_iinc hC (v := x4 + 1) dX4_roost_162 4 rfl rfl (by decide) (lvq := [(4, .int (x4 + 1)), (0, .ref (z.1 (11 + w))), (1, .int x1), (2, .int x2), (3, .int x3)]) rfl ?_
        refine sv_goto hC (tgt := 103) dX4_roost_165 (by decide) ?_
        refine sv_loc [1, 2, 3, 4, 0] (lvq := [(0, .ref (z.1 (11 + w))), (1, .int x1), (2, .int x2), (3, .int x3), (4, .int (x4 + 1))]) rfl ?_
        exact hk_103 x1 x2 x3 (x4 + 1) (ms_a σ (j15 + (7 * w + 1)) j19 ((σ.2 (j15 + (7 * w + 1)) j16) + 0)) h
      · have h := sv_if c18 h
        refine sv_iload_n hC dX4_roost_135 2 rfl rfl ?_
        refine sv_iload_n hC dX4_roost_136 3 rfl rfl ?_
        obtain ⟨gd, h⟩ := sv_gn h
        refine sv_idiv hC dX4_roost_137 gd ?_
        refine sv_aload_n hC dX4_roost_138 0 rfl rfl ?_
        refine sv_get hC in_X4 (11 + w) (sx_w (w := w) hw) rfl 1 (by decide) q157 rfl (v := .ref (z.1 (14 + w))) rfl dX4_roost_139 ?_
        refine sv_iload hC dX4_roost_142 4 rfl ?_
        obtain ⟨j20, ej20, h⟩ := sv_ob h
        refine sv_aldr hC (14 + w) 8 (sx_fw (w := w) hw) rfl rfl (j := j20) (b := z.1 (j20 + (7 * w + 1) + 20)) ej20 rfl dX4_roost_144 ?_
        refine sv_iload_n hC dX4_roost_145 1 rfl rfl ?_
        obtain ⟨j21, ej21, h⟩ := sv_ob h
        refine sv_iald hC (j20 + (7 * w + 1) + 20) (f := σ.2 (j20 + (7 * w + 1))) (sx_a (XA_fr (w := w) (b := j20) hw (sv_ixl ej20))) rfl (j := j21) ej21 dX4_roost_146 ?_
        refine sv_isub hC dX4_roost_147 ?_
        refine sv_aload_n hC dX4_roost_148 0 rfl rfl ?_
        refine sv_get hC in_X4 (11 + w) (sx_w (w := w) hw) rfl 5 (by decide) q164 rfl (v := .int (σ.1 (21 + 2 * w))) rfl dX4_roost_149 ?_
        refine sv_imul hC dX4_roost_152 ?_
        refine sv_bipush hC (v := 100) dX4_roost_153 (by decide) ?_
        refine sv_idiv hC dX4_roost_155 (by decide) ?_
        refine sv_goto hC (tgt := 160) dX4_roost_156 (by decide) ?_
        refine sv_iadd hC dX4_roost_160 ?_
        obtain ⟨j22, ej22, h⟩ := sv_ob h
        refine sv_iast hC (j15 + (7 * w + 1) + 20) (f := σ.2 (j15 + (7 * w + 1))) (sx_a (XA_fr (w := w) (b := j15) hw (sv_ixl ej15))) rfl (j := j22) ej22 (Xq := SW (sg_dA Γ) z K (ms_a σ (j15 + (7 * w + 1)) j22 ((σ.2 (j15 + (7 * w + 1)) j16) + ((((x2 / x3) - (σ.2 (j20 + (7 * w + 1)) j21)) * (σ.1 (21 + 2 * w))) / 100)))) (sx_as (XA_fr (w := w) (b := j15) hw (sv_ixl ej15))) dX4_roost_161 ?_
        refine sv_iinc hC (v := x4 + 1) dX4_roost_162 4 rfl rfl (by decide) (lvq := [(4, .int (x4 + 1)), (0, .ref (z.1 (11 + w))), (1, .int x1), (2, .int x2), (3, .int x3)]) rfl ?_
        refine sv_goto hC (tgt := 103) dX4_roost_165 (by decide) ?_
        refine sv_loc [1, 2, 3, 4, 0] (lvq := [(0, .ref (z.1 (11 + w))), (1, .int x1), (2, .int x2), (3, .int x3), (4, .int (x4 + 1))]) rfl ?_
        exact hk_103 x1 x2 x3 (x4 + 1) (ms_a σ (j15 + (7 * w + 1)) j22 ((σ.2 (j15 + (7 * w + 1)) j16) + ((((x2 / x3) - (σ.2 (j20 + (7 * w + 1)) j21)) * (σ.1 (21 + 2 * w))) / 100))) h
set_option maxHeartbeats 2000000 in
theorem wk_xdX4_roost_103 {Γ : sv_G} (z : XZ) (K : XK) (hz : SP (sg_s0 Γ) (sg_dA Γ) z K) (w : Nat) (hw : w < 3) (hC : sv_C Γ cX4_roost 5 RX4 none rm_X4_roost) {r0 : MSt} (hQ : sv_RQ Γ (sv_pV (SW (sg_dA Γ) z K r0)) 0 0) (rk_2 : Int32 → MSt → Option MSt) (hk_2 : ∀ (x1 : Int32) (σ : MSt), rk_2 x1 σ = some r0 → sv_V Γ (SW (sg_dA Γ) z K σ) 0 0 2 [(0, .ref (z.1 (11 + w))), (1, .int x1)] []) : ∀ (n : Nat) (x1 : Int32) (x2 : Int32) (x3 : Int32) (x4 : Int32) (σ : MSt)  (h : xdX4_roost_103 K w rk_2 n x1 x2 x3 x4 σ = some r0), sv_V Γ (SW (sg_dA Γ) z K σ) 0 0 103 [(0, .ref (z.1 (11 + w))), (1, .int x1), (2, .int x2), (3, .int x3), (4, .int x4)] [] := by
  intro n
  induction n with
  | zero => intro x1 x2 x3 x4 σ h; cases h
  | succ n ih => intro x1 x2 x3 x4 σ h; exact wk_xdX4_roost_103b z K hz w hw hC hQ rk_2 hk_2 (xdX4_roost_103 K w rk_2 n) ih x1 x2 x3 x4 σ h
set_option maxHeartbeats 2000000 in
theorem wk_xdX4_roost_60 {Γ : sv_G} (z : XZ) (K : XK) (hz : SP (sg_s0 Γ) (sg_dA Γ) z K) (w : Nat) (hw : w < 3) (hC : sv_C Γ cX4_roost 5 RX4 none rm_X4_roost) {r0 : MSt} (hQ : sv_RQ Γ (sv_pV (SW (sg_dA Γ) z K r0)) 0 0) (rk_2 : Int32 → MSt → Option MSt) (hk_2 : ∀ (x1 : Int32) (σ : MSt), rk_2 x1 σ = some r0 → sv_V Γ (SW (sg_dA Γ) z K σ) 0 0 2 [(0, .ref (z.1 (11 + w))), (1, .int x1)] []) (rk_14 : Int32 → Int32 → Int32 → Int32 → MSt → Option MSt) (hk_14 : ∀ (x1 : Int32) (x2 : Int32) (x3 : Int32) (x4 : Int32) (σ : MSt), rk_14 x1 x2 x3 x4 σ = some r0 → sv_V Γ (SW (sg_dA Γ) z K σ) 0 0 14 [(0, .ref (z.1 (11 + w))), (1, .int x1), (2, .int x2), (3, .int x3), (4, .int x4)] []) (x1 : Int32) (x3 : Int32) (x4 : Int32) (t0 : Int32) (t1 : Int32) (σ : MSt)  (h : xdX4_roost_60 K w rk_2 rk_14 x1 x3 x4 t0 t1 σ = some r0) : sv_V Γ (SW (sg_dA Γ) z K σ) 0 0 60 [(0, .ref (z.1 (11 + w))), (1, .int x1), (3, .int x3), (4, .int x4)] [.int t1, .int t0] := by
  unfold xdX4_roost_60 at h
  refine sv_iadd hC dX4_roost_60 ?_
  refine sv_istore_n hC dX4_roost_61 rfl (by decide) (lvq := [(2, .int (t0 + t1)), (0, .ref (z.1 (11 + w))), (1, .int x1), (3, .int x3), (4, .int x4)]) rfl ?_
  refine sv_iload_n hC dX4_roost_62 3 rfl rfl ?_
  refine sv_aload_n hC dX4_roost_63 1 rfl rfl ?_
  refine sv_get hC in_X4 (11 + w) (sx_w (w := w) hw) rfl 6 (by decide) q165 rfl (v := .ref (z.1 0)) rfl dX4_roost_64 ?_
  refine sv_iload hC dX4_roost_67 4 rfl ?_
  obtain ⟨r9, er9, h⟩ := sv_ob h
  refine sv_wVNi (nn := 1) hC (met_xdX0_isFlock hC.F z K hz σ x4 er9) 0 1 (sx_at (by decide)) rfl rfl q800 (lw_meth q748) q747 qs7 q52 (by decide +kernel) ⟨by decide, by decide⟩ ⟨rfl, rfl⟩ rfl rfl (Nat.le_of_ble_eq_true rfl) ⟨Nat.le_refl 0, Nat.le_refl 0⟩ dX4_roost_69 ?_
  refine sv_if_eq hC (tgt := 91) dX4_roost_72 (by decide) (fun c10 => ?_) (fun c10 => ?_)
  · have h := sv_it c10 h
    refine sv_iconst hC (v := 0) dX4_roost_91 (by decide) ?_
    refine sv_iadd hC dX4_roost_92 ?_
    refine sv_istore_n hC dX4_roost_93 rfl (by decide) (lvq := [(3, .int (x3 + 0)), (2, .int (t0 + t1)), (0, .ref (z.1 (11 + w))), (1, .int x1), (4, .int x4)]) rfl ?_
    refine sv_iinc hC (v := x4 + 1) dX4_roost_94 4 rfl rfl (by decide) (lvq := [(4, .int (x4 + 1)), (3, .int (x3 + 0)), (2, .int (t0 + t1)), (0, .ref (z.1 (11 + w))), (1, .int x1)]) rfl ?_
    refine sv_goto hC (tgt := 14) dX4_roost_97 (by decide) ?_
    refine sv_loc [3, 4, 2, 1, 0] (lvq := [(0, .ref (z.1 (11 + w))), (1, .int x1), (2, .int (t0 + t1)), (3, .int (x3 + 0)), (4, .int (x4 + 1))]) rfl ?_
    exact hk_14 x1 (t0 + t1) (x3 + 0) (x4 + 1) σ h
  · have h := sv_if c10 h
    refine sv_aload_n hC dX4_roost_75 1 rfl rfl ?_
    refine sv_get hC in_X4 (11 + w) (sx_w (w := w) hw) rfl 6 (by decide) q165 rfl (v := .ref (z.1 0)) rfl dX4_roost_76 ?_
    refine sv_getN hC in_X0 0 (sx_at (by decide)) rfl 1 (by decide) q225 rfl (v := .ref (z.1 2)) rfl dX4_roost_79 ?_
    refine sv_iload hC dX4_roost_82 4 rfl ?_
    obtain ⟨j11, ej11, h⟩ := sv_ob h
    refine sv_aldq hC 2 4 (sx_at (by decide)) rfl (j := j11) ej11 dX4_roost_84 ?_
    obtain ⟨v12, ev12, h⟩ := sv_ob h
    refine sx_pVB (r := v12) (nn := 0) hC hz ev12 (by have hb := hz.2.1 _ _ ev12; have hm := met_intValue (l := sg_l Γ) hC.F hz.2.2.2.2.2.2 hb.1; rw [hb.2] at hm; exact hm) (lw_V q809 q750 q751 q77 q752) (by decide +kernel) ⟨by decide, by decide⟩ ⟨rfl, rfl⟩ rfl rfl (Nat.le_of_ble_eq_true rfl) ⟨Nat.le_refl 0, Nat.le_refl 0⟩ dX4_roost_85 ?_
    refine sv_goto hC (tgt := 92) dX4_roost_88 (by decide) ?_
    refine sv_iadd hC dX4_roost_92 ?_
    refine sv_istore_n hC dX4_roost_93 rfl (by decide) (lvq := [(3, .int (x3 + v12)), (2, .int (t0 + t1)), (0, .ref (z.1 (11 + w))), (1, .int x1), (4, .int x4)]) rfl ?_
    refine sv_iinc hC (v := x4 + 1) dX4_roost_94 4 rfl rfl (by decide) (lvq := [(4, .int (x4 + 1)), (3, .int (x3 + v12)), (2, .int (t0 + t1)), (0, .ref (z.1 (11 + w))), (1, .int x1)]) rfl ?_
    refine sv_goto hC (tgt := 14) dX4_roost_97 (by decide) ?_
    refine sv_loc [3, 4, 2, 1, 0] (lvq := [(0, .ref (z.1 (11 + w))), (1, .int x1), (2, .int (t0 + t1)), (3, .int (x3 + v12)), (4, .int (x4 + 1))]) rfl ?_
    exact hk_14 x1 (t0 + t1) (x3 + v12) (x4 + 1) σ h
set_option maxHeartbeats 2000000 in
theorem wk_xdX4_roost_14b {Γ : sv_G} (z : XZ) (K : XK) (hz : SP (sg_s0 Γ) (sg_dA Γ) z K) (w : Nat) (hw : w < 3) (hC : sv_C Γ cX4_roost 5 RX4 none rm_X4_roost) {r0 : MSt} (hQ : sv_RQ Γ (sv_pV (SW (sg_dA Γ) z K r0)) 0 0) (rk_2 : Int32 → MSt → Option MSt) (hk_2 : ∀ (x1 : Int32) (σ : MSt), rk_2 x1 σ = some r0 → sv_V Γ (SW (sg_dA Γ) z K σ) 0 0 2 [(0, .ref (z.1 (11 + w))), (1, .int x1)] []) (rk_14 : Int32 → Int32 → Int32 → Int32 → MSt → Option MSt) (hk_14 : ∀ (x1 : Int32) (x2 : Int32) (x3 : Int32) (x4 : Int32) (σ : MSt), rk_14 x1 x2 x3 x4 σ = some r0 → sv_V Γ (SW (sg_dA Γ) z K σ) 0 0 14 [(0, .ref (z.1 (11 + w))), (1, .int x1), (2, .int x2), (3, .int x3), (4, .int x4)] []) (x1 : Int32) (x2 : Int32) (x3 : Int32) (x4 : Int32) (σ : MSt)  (h : xdX4_roost_14b K w rk_2 rk_14 x1 x2 x3 x4 σ = some r0) : sv_V Γ (SW (sg_dA Γ) z K σ) 0 0 14 [(0, .ref (z.1 (11 + w))), (1, .int x1), (2, .int x2), (3, .int x3), (4, .int x4)] [] := by
  unfold xdX4_roost_14b at h
  refine sv_iload hC dX4_roost_14 4 rfl ?_
  refine sv_iconst hC (v := 4) dX4_roost_16 (by decide) ?_
  refine sv_icmp_ge hC (tgt := 100) dX4_roost_17 (by decide) (fun c2 => ?_) (fun c2 => ?_)
  · have h := sv_it c2 h
    refine sv_iconst hC (v := 0) dX4_roost_100 (by decide) ?_
    refine sv_istore hC dX4_roost_101 (by decide) (lvq := [(4, .int 0), (0, .ref (z.1 (11 + w))), (1, .int x1), (2, .int x2), (3, .int x3)]) rfl ?_
    refine sv_loc [1, 2, 3, 4, 0] (lvq := [(0, .ref (z.1 (11 + w))), (1, .int x1), (2, .int x2), (3, .int x3), (4, .int 0)]) rfl ?_
    exact wk_xdX4_roost_103 z K hz w hw hC hQ rk_2 hk_2 sv_FU x1 x2 x3 0 σ h
  · have h := sv_if c2 h
    refine sv_iload_n hC dX4_roost_20 2 rfl rfl ?_
    refine sv_aload_n hC dX4_roost_21 0 rfl rfl ?_
    refine sv_get hC in_X4 (11 + w) (sx_w (w := w) hw) rfl 6 (by decide) q165 rfl (v := .ref (z.1 0)) rfl dX4_roost_22 ?_
    refine sv_iload hC dX4_roost_25 4 rfl ?_
    obtain ⟨r3, er3, h⟩ := sv_ob h
    refine sv_wVNi (nn := 1) hC (met_xdX0_isFlock hC.F z K hz σ x4 er3) 0 1 (sx_at (by decide)) rfl rfl q800 (lw_meth q748) q747 qs7 q52 (by decide +kernel) ⟨by decide, by decide⟩ ⟨rfl, rfl⟩ rfl rfl (Nat.le_of_ble_eq_true rfl) ⟨Nat.le_refl 0, Nat.le_refl 0⟩ dX4_roost_27 ?_
    refine sv_if_eq hC (tgt := 59) dX4_roost_30 (by decide) (fun c4 => ?_) (fun c4 => ?_)
    · have h := sv_it c4 h
      refine sv_iconst hC (v := 0) dX4_roost_59 (by decide) ?_
      refine sv_loc [0, 1, 3, 4] (lvq := [(0, .ref (z.1 (11 + w))), (1, .int x1), (3, .int x3), (4, .int x4)]) rfl ?_
      exact wk_xdX4_roost_60 z K hz w hw hC hQ rk_2 hk_2 rk_14 hk_14 x1 x3 x4 x2 0 σ h
    · have h := sv_if c4 h
      refine sv_aload_n hC dX4_roost_33 0 rfl rfl ?_
      refine sv_get hC in_X4 (11 + w) (sx_w (w := w) hw) rfl 1 (by decide) q157 rfl (v := .ref (z.1 (14 + w))) rfl dX4_roost_34 ?_
      refine sv_iload hC dX4_roost_37 4 rfl ?_
      obtain ⟨j5, ej5, h⟩ := sv_ob h
      refine sv_aldr hC (14 + w) 8 (sx_fw (w := w) hw) rfl rfl (j := j5) (b := z.1 (j5 + (7 * w + 1) + 20)) ej5 rfl dX4_roost_39 ?_
      refine sv_iload_n hC dX4_roost_40 1 rfl rfl ?_
      obtain ⟨j6, ej6, h⟩ := sv_ob h
      refine sv_iald hC (j5 + (7 * w + 1) + 20) (f := σ.2 (j5 + (7 * w + 1))) (sx_a (XA_fr (w := w) (b := j5) hw (sv_ixl ej5))) rfl (j := j6) ej6 dX4_roost_41 ?_
      refine sv_aload_n hC dX4_roost_42 0 rfl rfl ?_
      refine sv_get hC in_X4 (11 + w) (sx_w (w := w) hw) rfl 6 (by decide) q165 rfl (v := .ref (z.1 0)) rfl dX4_roost_43 ?_
      refine sv_getN hC in_X0 0 (sx_at (by decide)) rfl 1 (by decide) q225 rfl (v := .ref (z.1 2)) rfl dX4_roost_46 ?_
      refine sv_iload hC dX4_roost_49 4 rfl ?_
      obtain ⟨j7, ej7, h⟩ := sv_ob h
      refine sv_aldq hC 2 4 (sx_at (by decide)) rfl (j := j7) ej7 dX4_roost_51 ?_
      obtain ⟨v8, ev8, h⟩ := sv_ob h
      refine sx_pVB (r := v8) (nn := 0) hC hz ev8 (by have hb := hz.2.1 _ _ ev8; have hm := met_intValue (l := sg_l Γ) hC.F hz.2.2.2.2.2.2 hb.1; rw [hb.2] at hm; exact hm) (lw_V q809 q750 q751 q77 q752) (by decide +kernel) ⟨by decide, by decide⟩ ⟨rfl, rfl⟩ rfl rfl (Nat.le_of_ble_eq_true rfl) ⟨Nat.le_refl 0, Nat.le_refl 0⟩ dX4_roost_52 ?_
      refine sv_imul hC dX4_roost_55 ?_
      refine sv_goto hC (tgt := 60) dX4_roost_56 (by decide) ?_
      refine sv_loc [0, 1, 3, 4] (lvq := [(0, .ref (z.1 (11 + w))), (1, .int x1), (3, .int x3), (4, .int x4)]) rfl ?_
      exact wk_xdX4_roost_60 z K hz w hw hC hQ rk_2 hk_2 rk_14 hk_14 x1 x3 x4 x2 ((σ.2 (j5 + (7 * w + 1)) j6) * v8) σ h
set_option maxHeartbeats 2000000 in
theorem wk_xdX4_roost_14 {Γ : sv_G} (z : XZ) (K : XK) (hz : SP (sg_s0 Γ) (sg_dA Γ) z K) (w : Nat) (hw : w < 3) (hC : sv_C Γ cX4_roost 5 RX4 none rm_X4_roost) {r0 : MSt} (hQ : sv_RQ Γ (sv_pV (SW (sg_dA Γ) z K r0)) 0 0) (rk_2 : Int32 → MSt → Option MSt) (hk_2 : ∀ (x1 : Int32) (σ : MSt), rk_2 x1 σ = some r0 → sv_V Γ (SW (sg_dA Γ) z K σ) 0 0 2 [(0, .ref (z.1 (11 + w))), (1, .int x1)] []) : ∀ (n : Nat) (x1 : Int32) (x2 : Int32) (x3 : Int32) (x4 : Int32) (σ : MSt)  (h : xdX4_roost_14 K w rk_2 n x1 x2 x3 x4 σ = some r0), sv_V Γ (SW (sg_dA Γ) z K σ) 0 0 14 [(0, .ref (z.1 (11 + w))), (1, .int x1), (2, .int x2), (3, .int x3), (4, .int x4)] [] := by
  intro n
  induction n with
  | zero => intro x1 x2 x3 x4 σ h; cases h
  | succ n ih => intro x1 x2 x3 x4 σ h; exact wk_xdX4_roost_14b z K hz w hw hC hQ rk_2 hk_2 (xdX4_roost_14 K w rk_2 n) ih x1 x2 x3 x4 σ h
set_option maxHeartbeats 2000000 in
theorem wk_xdX4_roost_2b {Γ : sv_G} (z : XZ) (K : XK) (hz : SP (sg_s0 Γ) (sg_dA Γ) z K) (w : Nat) (hw : w < 3) (hC : sv_C Γ cX4_roost 5 RX4 none rm_X4_roost) {r0 : MSt} (hQ : sv_RQ Γ (sv_pV (SW (sg_dA Γ) z K r0)) 0 0)  (rk_2 : Int32 → MSt → Option MSt) (hk_2 : ∀ (x1 : Int32) (σ : MSt), rk_2 x1 σ = some r0 → sv_V Γ (SW (sg_dA Γ) z K σ) 0 0 2 [(0, .ref (z.1 (11 + w))), (1, .int x1)] []) (x1 : Int32) (σ : MSt)  (h : xdX4_roost_2b K w rk_2 x1 σ = some r0) : sv_V Γ (SW (sg_dA Γ) z K σ) 0 0 2 [(0, .ref (z.1 (11 + w))), (1, .int x1)] [] := by
  unfold xdX4_roost_2b at h
  refine sv_iload_n hC dX4_roost_2 1 rfl rfl ?_
  refine sv_iconst hC (v := 4) dX4_roost_3 (by decide) ?_
  refine sv_icmp_ge hC (tgt := 174) dX4_roost_4 (by decide) (fun c1 => ?_) (fun c1 => ?_)
  · have h := sv_it c1 h
    exact sv_vret hC hQ dX4_roost_174 (by have e := Option.some.inj h; subst e; exact ⟨rfl, rfl⟩)
  · have h := sv_if c1 h
    refine sv_iconst hC (v := 0) dX4_roost_7 (by decide) ?_
    refine sv_istore_n hC dX4_roost_8 rfl (by decide) (lvq := [(2, .int 0), (0, .ref (z.1 (11 + w))), (1, .int x1)]) rfl ?_
    refine sv_iconst hC (v := 0) dX4_roost_9 (by decide) ?_
    refine sv_istore_n hC dX4_roost_10 rfl (by decide) (lvq := [(3, .int 0), (2, .int 0), (0, .ref (z.1 (11 + w))), (1, .int x1)]) rfl ?_
    refine sv_iconst hC (v := 0) dX4_roost_11 (by decide) ?_
    refine sv_istore hC dX4_roost_12 (by decide) (lvq := [(4, .int 0), (3, .int 0), (2, .int 0), (0, .ref (z.1 (11 + w))), (1, .int x1)]) rfl ?_
    refine sv_loc [3, 4, 2, 1, 0] (lvq := [(0, .ref (z.1 (11 + w))), (1, .int x1), (2, .int 0), (3, .int 0), (4, .int 0)]) rfl ?_
    exact wk_xdX4_roost_14 z K hz w hw hC hQ rk_2 hk_2 sv_FU x1 0 0 0 σ h
set_option maxHeartbeats 2000000 in
theorem wk_xdX4_roost_2 {Γ : sv_G} (z : XZ) (K : XK) (hz : SP (sg_s0 Γ) (sg_dA Γ) z K) (w : Nat) (hw : w < 3) (hC : sv_C Γ cX4_roost 5 RX4 none rm_X4_roost) {r0 : MSt} (hQ : sv_RQ Γ (sv_pV (SW (sg_dA Γ) z K r0)) 0 0)  : ∀ (n : Nat) (x1 : Int32) (σ : MSt)  (h : xdX4_roost_2 K w n x1 σ = some r0), sv_V Γ (SW (sg_dA Γ) z K σ) 0 0 2 [(0, .ref (z.1 (11 + w))), (1, .int x1)] [] := by
  intro n
  induction n with
  | zero => intro x1 σ h; cases h
  | succ n ih => intro x1 σ h; exact wk_xdX4_roost_2b z K hz w hw hC hQ (xdX4_roost_2 K w n) ih x1 σ h
set_option maxHeartbeats 2000000 in
theorem wk_xdX4_roost {Γ : sv_G} (z : XZ) (K : XK) (hz : SP (sg_s0 Γ) (sg_dA Γ) z K) (w : Nat) (hw : w < 3) (hC : sv_C Γ cX4_roost 5 RX4 none rm_X4_roost) {r0 : MSt} (hQ : sv_RQ Γ (sv_pV (SW (sg_dA Γ) z K r0)) 0 0) (σ : MSt) (h : xdX4_roost K w σ = some r0) : sv_V Γ (SW (sg_dA Γ) z K σ) 0 0 0 [(0, .ref (z.1 (11 + w)))] [] := by
  unfold xdX4_roost at h
  refine sv_iconst hC (v := 0) dX4_roost_0 (by decide) ?_
  refine sv_istore_n hC dX4_roost_1 rfl (by decide) (lvq := [(1, .int 0), (0, .ref (z.1 (11 + w)))]) rfl ?_
  refine sv_loc [1, 0] (lvq := [(0, .ref (z.1 (11 + w))), (1, .int 0)]) rfl ?_
  exact wk_xdX4_roost_2 z K hz w hw hC hQ sv_FU 0 σ h
set_option maxHeartbeats 2000000 in
theorem met_xdX4_roost {l : Launch} {s0 : State} {D : va_G} {dA : Nat → ClassId} (hF : sv_F s0 D dA) (z : XZ) (K : XK) (hz : SP s0 dA z K) (w : Nat) (hw : w < 3) (σ : MSt) {r0 : MSt} (h : xdX4_roost K w σ = some r0) : sv_M l s0 D yX4_roost cX4_roost 5 none rm_X4_roost [.ref (z.1 (11 + w))] (SW dA z K σ) (sv_pV (SW dA z K r0)) :=
  sv_met hF (by decide) (Nat.le_of_ble_eq_true rfl) (fun Γ hC hQ hmn e1 e2 e3 e4 => by
    subst e1 e2 e3 e4
    exact wk_xdX4_roost z K hz w hw hC hQ σ h)
set_option maxHeartbeats 2000000 in
theorem wk_xdX4_go_238 {Γ : sv_G} (z : XZ) (K : XK) (hz : SP (sg_s0 Γ) (sg_dA Γ) z K) (w : Nat) (ra : Nat) (rb : Nat) (hw : w < 3) (hra : XA ra 1 4) (hrb : XA rb 2 4) (hC : sv_C Γ cX4_go 7 RX4 (some .int) rm_X4_go) {r0 : Int32 × MSt} (hQ : sv_RQ Γ (sv_pI r0.1 (SW (sg_dA Γ) z K r0.2)) 0 0) (rk_205 : Int32 → Int32 → MSt → Option (Int32 × MSt)) (hk_205 : ∀ (x3 : Int32) (x4 : Int32) (σ : MSt), rk_205 x3 x4 σ = some r0 → sv_V Γ (SW (sg_dA Γ) z K σ) 0 0 205 [(0, .ref (z.1 (11 + w))), (1, .ref (z.1 (ra + 20))), (2, .ref (z.1 (rb + 20))), (3, .int x3), (4, .int x4)] []) (x3 : Int32) (x4 : Int32) (t0 : Int32) (σ : MSt)  (h : xdX4_go_238 K w ra rb rk_205 x3 x4 t0 σ = some r0) : sv_V Γ (SW (sg_dA Γ) z K σ) 0 0 238 [(0, .ref (z.1 (11 + w))), (1, .ref (z.1 (ra + 20))), (2, .ref (z.1 (rb + 20))), (3, .int x3), (4, .int x4)] [.int t0] := by
  unfold xdX4_go_238 at h
  refine sv_istore hC dX4_go_238 (by decide) (lvq := [(5, .int t0), (0, .ref (z.1 (11 + w))), (1, .ref (z.1 (ra + 20))), (2, .ref (z.1 (rb + 20))), (3, .int x3), (4, .int x4)]) rfl ?_
  refine sv_iload hC dX4_go_240 0 rfl ?_
  refine sv_iconst hC (v := (-1)) dX4_go_242 (by decide) ?_
  refine sv_icmp_eq hC (tgt := 328) dX4_go_243 (by decide) (fun c34 => ?_) (fun c34 => ?_)
  · have h := sv_it c34 h
    refine sv_iinc hC (v := x4 + 1) dX4_go_328 5 rfl rfl (by decide) (lvq := [(4, .int (x4 + 1)), (5, .int t0), (0, .ref (z.1 (11 + w))), (1, .ref (z.1 (ra + 20))), (2, .ref (z.1 (rb + 20))), (3, .int x3)]) rfl ?_
    refine sv_goto hC (tgt := 205) dX4_go_331 (by decide) ?_
    refine sv_loc [2, 3, 4, 5, 0] (lvq := [(0, .ref (z.1 (11 + w))), (1, .ref (z.1 (ra + 20))), (2, .ref (z.1 (rb + 20))), (3, .int x3), (4, .int (x4 + 1))]) rfl ?_
    exact hk_205 x3 (x4 + 1) σ h
  · have h := sv_if c34 h
    refine sv_aload_n hC dX4_go_246 3 rfl rfl ?_
    refine sv_iload hC dX4_go_247 0 rfl ?_
    obtain ⟨j35, ej35, h⟩ := sv_ob h
    refine sv_zald hC (rb + 20) (f := σ.2 rb) (sx_a hrb) rfl (j := j35) ej35 dX4_go_249 ?_
    refine sv_if_eq hC (tgt := 263) dX4_go_250 (by decide) (fun c36 => ?_) (fun c36 => ?_)
    · have h := sv_it c36 h
      refine sv_aload_n hC dX4_go_263 1 rfl rfl ?_
      refine sv_get hC in_X4 (11 + w) (sx_w (w := w) hw) rfl 6 (by decide) q165 rfl (v := .ref (z.1 0)) rfl dX4_go_264 ?_
      refine sv_getN hC in_X0 0 (sx_at (by decide)) rfl 2 (by decide) q226 rfl (v := .ref (z.1 3)) rfl dX4_go_267 ?_
      refine sv_iload hC dX4_go_270 0 rfl ?_
      obtain ⟨j37, ej37, h⟩ := sv_ob h
      refine sv_aldq hC 3 5 (sx_at (by decide)) rfl (j := j37) ej37 dX4_go_272 ?_
      refine sv_astoreO hC dX4_go_273 (by decide) (lvq := [(6, va_rf ((K.2.2.1 j37).map (fun _ => z.2.2.2.1 j37))), (5, .int t0), (0, .ref (z.1 (11 + w))), (1, .ref (z.1 (ra + 20))), (2, .ref (z.1 (rb + 20))), (3, .int x3), (4, .int x4)]) rfl ?_
      refine sv_aload_n hC dX4_go_275 2 rfl rfl ?_
      refine sv_get hC in_X4 (11 + w) (sx_w (w := w) hw) rfl 1 (by decide) q157 rfl (v := .ref (z.1 (14 + w))) rfl dX4_go_276 ?_
      refine sv_iload hC dX4_go_279 6 rfl ?_
      obtain ⟨j38, ej38, h⟩ := sv_ob h
      refine sv_aldr hC (14 + w) 8 (sx_fw (w := w) hw) rfl rfl (j := j38) (b := z.1 (j38 + (7 * w + 1) + 20)) ej38 rfl dX4_go_281 ?_
      refine sv_iload hC dX4_go_282 1 rfl ?_
      refine sv_aloadO hC dX4_go_284 0 rfl ?_
      refine sv_aload_n hC dX4_go_286 2 rfl rfl ?_
      refine sv_get hC in_X4 (11 + w) (sx_w (w := w) hw) rfl 1 (by decide) q157 rfl (v := .ref (z.1 (14 + w))) rfl dX4_go_287 ?_
      refine sv_iload hC dX4_go_290 6 rfl ?_
      obtain ⟨j39, ej39, h⟩ := sv_ob h
      refine sv_aldr hC (14 + w) 8 (sx_fw (w := w) hw) rfl rfl (j := j39) (b := z.1 (j39 + (7 * w + 1) + 20)) ej39 rfl dX4_go_292 ?_
      refine sv_iload hC dX4_go_293 1 rfl ?_
      obtain ⟨j40, ej40, h⟩ := sv_ob h
      refine sv_iald hC (j39 + (7 * w + 1) + 20) (f := σ.2 (j39 + (7 * w + 1))) (sx_a (XA_fr (w := w) (b := j39) hw (sv_ixl ej39))) rfl (j := j40) ej40 dX4_go_295 ?_
      refine sv_aload_n hC dX4_go_296 2 rfl rfl ?_
      refine sv_get hC in_X4 (11 + w) (sx_w (w := w) hw) rfl 4 (by decide) q163 rfl (v := .int (σ.1 (20 + 2 * w))) rfl dX4_go_297 ?_
      refine sv_iconst hC (v := (-1)) dX4_go_300 (by decide) ?_
      refine sv_icmp_ne hC (tgt := 320) dX4_go_301 (by decide) (fun c41 => ?_) (fun c41 => ?_)
      · have h := sv_if c41 h
        refine sv_aload_n hC dX4_go_320 2 rfl rfl ?_
        refine sv_get hC in_X4 (11 + w) (sx_w (w := w) hw) rfl 4 (by decide) q163 rfl (v := .int (σ.1 (20 + 2 * w))) rfl dX4_go_321 ?_
        obtain ⟨v43, ev43, h⟩ := sv_ob h
        obtain ⟨r42, er42, h⟩ := sv_ob h
        refine sx_pVC (nn := 2) hC hz ev43 (met_xdX1_after hC.F (z.2.2.2.1 j37) (σ.2 (j39 + (7 * w + 1)) j40) (σ.1 (20 + 2 * w)) er42) (lw_V q811 q812 q813 q53 q819) (by decide +kernel) ⟨by decide, by decide⟩ ⟨rfl, rfl⟩ rfl rfl (Nat.le_of_ble_eq_true rfl) ⟨Nat.le_refl 0, Nat.le_refl 0⟩ dX4_go_324 ?_
        obtain ⟨j44, ej44, h⟩ := sv_ob h
        refine sv_iast hC (j38 + (7 * w + 1) + 20) (f := σ.2 (j38 + (7 * w + 1))) (sx_a (XA_fr (w := w) (b := j38) hw (sv_ixl ej38))) rfl (j := j44) ej44 (Xq := SW (sg_dA Γ) z K (ms_a σ (j38 + (7 * w + 1)) j44 r42)) (sx_as (XA_fr (w := w) (b := j38) hw (sv_ixl ej38))) dX4_go_327 ?_
        refine sv_iinc hC (v := x4 + 1) dX4_go_328 6 rfl rfl (by decide) (lvq := [(4, .int (x4 + 1)), (6, va_rf ((K.2.2.1 j37).map (fun _ => z.2.2.2.1 j37))), (5, .int t0), (0, .ref (z.1 (11 + w))), (1, .ref (z.1 (ra + 20))), (2, .ref (z.1 (rb + 20))), (3, .int x3)]) rfl ?_
        refine sv_goto hC (tgt := 205) dX4_go_331 (by decide) ?_
        refine sv_loc [3, 4, 5, 6, 0] (lvq := [(0, .ref (z.1 (11 + w))), (1, .ref (z.1 (ra + 20))), (2, .ref (z.1 (rb + 20))), (3, .int x3), (4, .int (x4 + 1))]) rfl ?_
        exact hk_205 x3 (x4 + 1) (ms_a σ (j38 + (7 * w + 1)) j44 r42) h
      · have h := sv_it c41 h
        refine sv_aload_n hC dX4_go_304 2 rfl rfl ?_
        refine sv_get hC in_X4 (11 + w) (sx_w (w := w) hw) rfl 6 (by decide) q165 rfl (v := .ref (z.1 0)) rfl dX4_go_305 ?_
        refine sv_getN hC in_X0 0 (sx_at (by decide)) rfl 2 (by decide) q226 rfl (v := .ref (z.1 3)) rfl dX4_go_308 ?_
        refine sv_iload hC dX4_go_311 1 rfl ?_
        obtain ⟨j45, ej45, h⟩ := sv_ob h
        refine sv_aldq hC 3 5 (sx_at (by decide)) rfl (j := j45) ej45 dX4_go_313 ?_
        obtain ⟨v46, ev46, h⟩ := sv_ob h
        refine sx_cget hC hz ev46 1 (by decide) q114 rfl dX4_go_314 ?_
        refine sv_goto hC (tgt := 324) dX4_go_317 (by decide) ?_
        obtain ⟨v48, ev48, h⟩ := sv_ob h
        obtain ⟨r47, er47, h⟩ := sv_ob h
        refine sx_pVC (nn := 2) hC hz ev48 (met_xdX1_after hC.F (z.2.2.2.1 j37) (σ.2 (j39 + (7 * w + 1)) j40) v46.2 er47) (lw_V q811 q812 q813 q53 q819) (by decide +kernel) ⟨by decide, by decide⟩ ⟨rfl, rfl⟩ rfl rfl (Nat.le_of_ble_eq_true rfl) ⟨Nat.le_refl 0, Nat.le_refl 0⟩ dX4_go_324 ?_
        obtain ⟨j49, ej49, h⟩ := sv_ob h
        refine sv_iast hC (j38 + (7 * w + 1) + 20) (f := σ.2 (j38 + (7 * w + 1))) (sx_a (XA_fr (w := w) (b := j38) hw (sv_ixl ej38))) rfl (j := j49) ej49 (Xq := SW (sg_dA Γ) z K (ms_a σ (j38 + (7 * w + 1)) j49 r47)) (sx_as (XA_fr (w := w) (b := j38) hw (sv_ixl ej38))) dX4_go_327 ?_
        refine sv_iinc hC (v := x4 + 1) dX4_go_328 6 rfl rfl (by decide) (lvq := [(4, .int (x4 + 1)), (6, va_rf ((K.2.2.1 j37).map (fun _ => z.2.2.2.1 j37))), (5, .int t0), (0, .ref (z.1 (11 + w))), (1, .ref (z.1 (ra + 20))), (2, .ref (z.1 (rb + 20))), (3, .int x3)]) rfl ?_
        refine sv_goto hC (tgt := 205) dX4_go_331 (by decide) ?_
        refine sv_loc [3, 4, 5, 6, 0] (lvq := [(0, .ref (z.1 (11 + w))), (1, .ref (z.1 (ra + 20))), (2, .ref (z.1 (rb + 20))), (3, .int x3), (4, .int (x4 + 1))]) rfl ?_
        exact hk_205 x3 (x4 + 1) (ms_a σ (j38 + (7 * w + 1)) j49 r47) h
    · have h := sv_if c36 h
      refine sv_aload_n hC dX4_go_253 1 rfl rfl ?_
      refine sv_get hC in_X4 (11 + w) (sx_w (w := w) hw) rfl 6 (by decide) q165 rfl (v := .ref (z.1 0)) rfl dX4_go_254 ?_
      refine sv_getN hC in_X0 0 (sx_at (by decide)) rfl 3 (by decide) q228 rfl (v := .ref (z.1 4)) rfl dX4_go_257 ?_
      refine sv_goto hC (tgt := 273) dX4_go_260 (by decide) ?_
      refine sv_astore hC dX4_go_273 (by decide) (lvq := [(6, .ref (z.1 4)), (5, .int t0), (0, .ref (z.1 (11 + w))), (1, .ref (z.1 (ra + 20))), (2, .ref (z.1 (rb + 20))), (3, .int x3), (4, .int x4)]) rfl ?_
      refine sv_aload_n hC dX4_go_275 2 rfl rfl ?_
      refine sv_get hC in_X4 (11 + w) (sx_w (w := w) hw) rfl 1 (by decide) q157 rfl (v := .ref (z.1 (14 + w))) rfl dX4_go_276 ?_
      refine sv_iload hC dX4_go_279 6 rfl ?_
      obtain ⟨j50, ej50, h⟩ := sv_ob h
      refine sv_aldr hC (14 + w) 8 (sx_fw (w := w) hw) rfl rfl (j := j50) (b := z.1 (j50 + (7 * w + 1) + 20)) ej50 rfl dX4_go_281 ?_
      refine sv_iload hC dX4_go_282 1 rfl ?_
      refine sv_aload hC dX4_go_284 0 rfl ?_
      refine sv_aload_n hC dX4_go_286 2 rfl rfl ?_
      refine sv_get hC in_X4 (11 + w) (sx_w (w := w) hw) rfl 1 (by decide) q157 rfl (v := .ref (z.1 (14 + w))) rfl dX4_go_287 ?_
      refine sv_iload hC dX4_go_290 6 rfl ?_
      obtain ⟨j51, ej51, h⟩ := sv_ob h
      refine sv_aldr hC (14 + w) 8 (sx_fw (w := w) hw) rfl rfl (j := j51) (b := z.1 (j51 + (7 * w + 1) + 20)) ej51 rfl dX4_go_292 ?_
      refine sv_iload hC dX4_go_293 1 rfl ?_
      obtain ⟨j52, ej52, h⟩ := sv_ob h
      refine sv_iald hC (j51 + (7 * w + 1) + 20) (f := σ.2 (j51 + (7 * w + 1))) (sx_a (XA_fr (w := w) (b := j51) hw (sv_ixl ej51))) rfl (j := j52) ej52 dX4_go_295 ?_
      refine sv_aload_n hC dX4_go_296 2 rfl rfl ?_
      refine sv_get hC in_X4 (11 + w) (sx_w (w := w) hw) rfl 4 (by decide) q163 rfl (v := .int (σ.1 (20 + 2 * w))) rfl dX4_go_297 ?_
      refine sv_iconst hC (v := (-1)) dX4_go_300 (by decide) ?_
      refine sv_icmp_ne hC (tgt := 320) dX4_go_301 (by decide) (fun c53 => ?_) (fun c53 => ?_)
      · have h := sv_if c53 h
        refine sv_aload_n hC dX4_go_320 2 rfl rfl ?_
        refine sv_get hC in_X4 (11 + w) (sx_w (w := w) hw) rfl 4 (by decide) q163 rfl (v := .int (σ.1 (20 + 2 * w))) rfl dX4_go_321 ?_
        obtain ⟨r54, er54, h⟩ := sv_ob h
        refine sv_wVO (nn := 2) hC (met_xdX2_after hC.F z K hz σ (σ.2 (j51 + (7 * w + 1)) j52) (σ.1 (20 + 2 * w)) er54) 4 3 (sx_at (by decide)) rfl rfl (lw_app (lw_in6 q811 q814 q812 q815 q816 q54) (lw_meth q817)) q819 (by decide +kernel) ⟨by decide, by decide⟩ ⟨rfl, rfl⟩ rfl rfl (Nat.le_of_ble_eq_true rfl) ⟨Nat.le_refl 0, Nat.le_refl 0⟩ dX4_go_324 ?_
        obtain ⟨j55, ej55, h⟩ := sv_ob h
        refine sv_iast hC (j50 + (7 * w + 1) + 20) (f := σ.2 (j50 + (7 * w + 1))) (sx_a (XA_fr (w := w) (b := j50) hw (sv_ixl ej50))) rfl (j := j55) ej55 (Xq := SW (sg_dA Γ) z K (ms_a σ (j50 + (7 * w + 1)) j55 r54)) (sx_as (XA_fr (w := w) (b := j50) hw (sv_ixl ej50))) dX4_go_327 ?_
        refine sv_iinc hC (v := x4 + 1) dX4_go_328 6 rfl rfl (by decide) (lvq := [(4, .int (x4 + 1)), (6, .ref (z.1 4)), (5, .int t0), (0, .ref (z.1 (11 + w))), (1, .ref (z.1 (ra + 20))), (2, .ref (z.1 (rb + 20))), (3, .int x3)]) rfl ?_
        refine sv_goto hC (tgt := 205) dX4_go_331 (by decide) ?_
        refine sv_loc [3, 4, 5, 6, 0] (lvq := [(0, .ref (z.1 (11 + w))), (1, .ref (z.1 (ra + 20))), (2, .ref (z.1 (rb + 20))), (3, .int x3), (4, .int (x4 + 1))]) rfl ?_
        exact hk_205 x3 (x4 + 1) (ms_a σ (j50 + (7 * w + 1)) j55 r54) h
      · have h := sv_it c53 h
        refine sv_aload_n hC dX4_go_304 2 rfl rfl ?_
        refine sv_get hC in_X4 (11 + w) (sx_w (w := w) hw) rfl 6 (by decide) q165 rfl (v := .ref (z.1 0)) rfl dX4_go_305 ?_
        refine sv_getN hC in_X0 0 (sx_at (by decide)) rfl 2 (by decide) q226 rfl (v := .ref (z.1 3)) rfl dX4_go_308 ?_
        refine sv_iload hC dX4_go_311 1 rfl ?_
        obtain ⟨j56, ej56, h⟩ := sv_ob h
        refine sv_aldq hC 3 5 (sx_at (by decide)) rfl (j := j56) ej56 dX4_go_313 ?_
        obtain ⟨v57, ev57, h⟩ := sv_ob h
        refine sx_cget hC hz ev57 1 (by decide) q114 rfl dX4_go_314 ?_
        refine sv_goto hC (tgt := 324) dX4_go_317 (by decide) ?_
        obtain ⟨r58, er58, h⟩ := sv_ob h
        refine sv_wVO (nn := 2) hC (met_xdX2_after hC.F z K hz σ (σ.2 (j51 + (7 * w + 1)) j52) v57.2 er58) 4 3 (sx_at (by decide)) rfl rfl (lw_app (lw_in6 q811 q814 q812 q815 q816 q54) (lw_meth q817)) q819 (by decide +kernel) ⟨by decide, by decide⟩ ⟨rfl, rfl⟩ rfl rfl (Nat.le_of_ble_eq_true rfl) ⟨Nat.le_refl 0, Nat.le_refl 0⟩ dX4_go_324 ?_
        obtain ⟨j59, ej59, h⟩ := sv_ob h
        refine sv_iast hC (j50 + (7 * w + 1) + 20) (f := σ.2 (j50 + (7 * w + 1))) (sx_a (XA_fr (w := w) (b := j50) hw (sv_ixl ej50))) rfl (j := j59) ej59 (Xq := SW (sg_dA Γ) z K (ms_a σ (j50 + (7 * w + 1)) j59 r58)) (sx_as (XA_fr (w := w) (b := j50) hw (sv_ixl ej50))) dX4_go_327 ?_
        refine sv_iinc hC (v := x4 + 1) dX4_go_328 6 rfl rfl (by decide) (lvq := [(4, .int (x4 + 1)), (6, .ref (z.1 4)), (5, .int t0), (0, .ref (z.1 (11 + w))), (1, .ref (z.1 (ra + 20))), (2, .ref (z.1 (rb + 20))), (3, .int x3)]) rfl ?_
        refine sv_goto hC (tgt := 205) dX4_go_331 (by decide) ?_
        refine sv_loc [3, 4, 5, 6, 0] (lvq := [(0, .ref (z.1 (11 + w))), (1, .ref (z.1 (ra + 20))), (2, .ref (z.1 (rb + 20))), (3, .int x3), (4, .int (x4 + 1))]) rfl ?_
        exact hk_205 x3 (x4 + 1) (ms_a σ (j50 + (7 * w + 1)) j59 r58) h
set_option maxHeartbeats 2000000 in
theorem wk_xdX4_go_205b {Γ : sv_G} (z : XZ) (K : XK) (hz : SP (sg_s0 Γ) (sg_dA Γ) z K) (w : Nat) (ra : Nat) (rb : Nat) (hw : w < 3) (hra : XA ra 1 4) (hrb : XA rb 2 4) (hC : sv_C Γ cX4_go 7 RX4 (some .int) rm_X4_go) {r0 : Int32 × MSt} (hQ : sv_RQ Γ (sv_pI r0.1 (SW (sg_dA Γ) z K r0.2)) 0 0)  (rk_205 : Int32 → Int32 → MSt → Option (Int32 × MSt)) (hk_205 : ∀ (x3 : Int32) (x4 : Int32) (σ : MSt), rk_205 x3 x4 σ = some r0 → sv_V Γ (SW (sg_dA Γ) z K σ) 0 0 205 [(0, .ref (z.1 (11 + w))), (1, .ref (z.1 (ra + 20))), (2, .ref (z.1 (rb + 20))), (3, .int x3), (4, .int x4)] []) (x3 : Int32) (x4 : Int32) (σ : MSt)  (h : xdX4_go_205b K w ra rb rk_205 x3 x4 σ = some r0) : sv_V Γ (SW (sg_dA Γ) z K σ) 0 0 205 [(0, .ref (z.1 (11 + w))), (1, .ref (z.1 (ra + 20))), (2, .ref (z.1 (rb + 20))), (3, .int x3), (4, .int x4)] [] := by
  unfold xdX4_go_205b at h
  refine sv_iload hC dX4_go_205 4 rfl ?_
  refine sv_iconst hC (v := 4) dX4_go_207 (by decide) ?_
  refine sv_icmp_ge hC (tgt := 334) dX4_go_208 (by decide) (fun c28 => ?_) (fun c28 => ?_)
  · have h := sv_it c28 h
    refine sv_aload_n hC dX4_go_334 0 rfl rfl ?_
    obtain ⟨s29, es29, h⟩ := sv_ob h
    refine sv_wVv (nn := 0) hC (met_xdX4_roost hC.F z K hz w hw σ es29) (11 + w) 5 (sx_w (w := w) hw) rfl rfl (lw_V q821 q823 qs12 q57 q824) (by decide +kernel) ⟨by decide, by decide⟩ ⟨rfl, rfl⟩ rfl rfl (Nat.le_of_ble_eq_true rfl) ⟨Nat.le_refl 0, Nat.le_refl 0⟩ dX4_go_335 ?_
    refine sv_iload_n hC dX4_go_338 3 rfl rfl ?_
    exact sv_iret hC hQ dX4_go_339 (by have e := Option.some.inj h; subst e; exact ⟨rfl, rfl⟩)
  · have h := sv_if c28 h
    refine sv_aload_n hC dX4_go_211 0 rfl rfl ?_
    refine sv_get hC in_X4 (11 + w) (sx_w (w := w) hw) rfl 2 (by decide) q159 rfl (v := .ref (z.1 (7 * w + 5 + 20))) rfl dX4_go_212 ?_
    refine sv_iload hC dX4_go_215 4 rfl ?_
    obtain ⟨j30, ej30, h⟩ := sv_ob h
    refine sv_iald hC (7 * w + 5 + 20) (f := σ.2 (7 * w + 5)) (sx_a (XA_fl (w := w) hw)) rfl (j := j30) ej30 dX4_go_217 ?_
    refine sv_iconst hC (v := (-1)) dX4_go_218 (by decide) ?_
    refine sv_icmp_ne hC (tgt := 226) dX4_go_219 (by decide) (fun c31 => ?_) (fun c31 => ?_)
    · have h := sv_if c31 h
      refine sv_aload_n hC dX4_go_226 0 rfl rfl ?_
      refine sv_aload_n hC dX4_go_227 1 rfl rfl ?_
      refine sv_aload_n hC dX4_go_228 0 rfl rfl ?_
      refine sv_get hC in_X4 (11 + w) (sx_w (w := w) hw) rfl 2 (by decide) q159 rfl (v := .ref (z.1 (7 * w + 5 + 20))) rfl dX4_go_229 ?_
      refine sv_iload hC dX4_go_232 4 rfl ?_
      obtain ⟨j32, ej32, h⟩ := sv_ob h
      refine sv_iald hC (7 * w + 5 + 20) (f := σ.2 (7 * w + 5)) (sx_a (XA_fl (w := w) hw)) rfl (j := j32) ej32 dX4_go_234 ?_
      obtain ⟨r33, er33, h⟩ := sv_ob h
      refine sv_wVi (nn := 2) hC (met_xdX4_coatAt hC.F z K hz w ra hw hra σ (σ.2 (7 * w + 5) j32) er33) (11 + w) 5 (sx_w (w := w) hw) rfl rfl (lw_V q805 q807 qs11 q57 q808) (by decide +kernel) ⟨by decide, by decide⟩ ⟨rfl, rfl⟩ rfl rfl (Nat.le_of_ble_eq_true rfl) ⟨Nat.le_refl 0, Nat.le_refl 0⟩ dX4_go_235 ?_
      exact wk_xdX4_go_238 z K hz w ra rb hw hra hrb hC hQ rk_205 hk_205 x3 x4 r33 σ h
    · have h := sv_it c31 h
      refine sv_iconst hC (v := (-1)) dX4_go_222 (by decide) ?_
      refine sv_goto hC (tgt := 238) dX4_go_223 (by decide) ?_
      exact wk_xdX4_go_238 z K hz w ra rb hw hra hrb hC hQ rk_205 hk_205 x3 x4 (-1) σ h
set_option maxHeartbeats 2000000 in
theorem wk_xdX4_go_205 {Γ : sv_G} (z : XZ) (K : XK) (hz : SP (sg_s0 Γ) (sg_dA Γ) z K) (w : Nat) (ra : Nat) (rb : Nat) (hw : w < 3) (hra : XA ra 1 4) (hrb : XA rb 2 4) (hC : sv_C Γ cX4_go 7 RX4 (some .int) rm_X4_go) {r0 : Int32 × MSt} (hQ : sv_RQ Γ (sv_pI r0.1 (SW (sg_dA Γ) z K r0.2)) 0 0)  : ∀ (n : Nat) (x3 : Int32) (x4 : Int32) (σ : MSt)  (h : xdX4_go_205 K w ra rb n x3 x4 σ = some r0), sv_V Γ (SW (sg_dA Γ) z K σ) 0 0 205 [(0, .ref (z.1 (11 + w))), (1, .ref (z.1 (ra + 20))), (2, .ref (z.1 (rb + 20))), (3, .int x3), (4, .int x4)] [] := by
  intro n
  induction n with
  | zero => intro x3 x4 σ h; cases h
  | succ n ih => intro x3 x4 σ h; exact wk_xdX4_go_205b z K hz w ra rb hw hra hrb hC hQ (xdX4_go_205 K w ra rb n) ih x3 x4 σ h
set_option maxHeartbeats 2000000 in
theorem wk_xdX4_go_116 {Γ : sv_G} (z : XZ) (K : XK) (hz : SP (sg_s0 Γ) (sg_dA Γ) z K) (w : Nat) (ra : Nat) (rb : Nat) (hw : w < 3) (hra : XA ra 1 4) (hrb : XA rb 2 4) (hC : sv_C Γ cX4_go 7 RX4 (some .int) rm_X4_go) {r0 : Int32 × MSt} (hQ : sv_RQ Γ (sv_pI r0.1 (SW (sg_dA Γ) z K r0.2)) 0 0) (rk_13 : Int32 → Int32 → MSt → Option (Int32 × MSt)) (hk_13 : ∀ (x3 : Int32) (x4 : Int32) (σ : MSt), rk_13 x3 x4 σ = some r0 → sv_V Γ (SW (sg_dA Γ) z K σ) 0 0 13 [(0, .ref (z.1 (11 + w))), (1, .ref (z.1 (ra + 20))), (2, .ref (z.1 (rb + 20))), (3, .int x3), (4, .int x4)] []) (x3 : Int32) (x4 : Int32) (σ : MSt)  (h : xdX4_go_116 K w ra rb rk_13 x3 x4 σ = some r0) : sv_V Γ (SW (sg_dA Γ) z K σ) 0 0 116 [(0, .ref (z.1 (11 + w))), (1, .ref (z.1 (ra + 20))), (2, .ref (z.1 (rb + 20))), (3, .int x3), (4, .int x4)] [] := by
  unfold xdX4_go_116 at h
  refine sv_aload_n hC dX4_go_116 0 rfl rfl ?_
  refine sv_get hC in_X4 (11 + w) (sx_w (w := w) hw) rfl 2 (by decide) q159 rfl (v := .ref (z.1 (7 * w + 5 + 20))) rfl dX4_go_117 ?_
  refine sv_iload hC dX4_go_120 4 rfl ?_
  obtain ⟨j16, ej16, h⟩ := sv_ob h
  refine sv_iald hC (7 * w + 5 + 20) (f := σ.2 (7 * w + 5)) (sx_a (XA_fl (w := w) hw)) rfl (j := j16) ej16 dX4_go_122 ?_
  refine sv_iconst hC (v := (-1)) dX4_go_123 (by decide) ?_
  refine sv_icmp_eq hC (tgt := 196) dX4_go_124 (by decide) (fun c17 => ?_) (fun c17 => ?_)
  · have h := sv_it c17 h
    refine sv_iinc hC (v := x4 + 1) dX4_go_196 4 rfl rfl (by decide) (lvq := [(4, .int (x4 + 1)), (0, .ref (z.1 (11 + w))), (1, .ref (z.1 (ra + 20))), (2, .ref (z.1 (rb + 20))), (3, .int x3)]) rfl ?_
    refine sv_goto hC (tgt := 13) dX4_go_199 (by decide) ?_
    refine sv_loc [1, 2, 3, 4, 0] (lvq := [(0, .ref (z.1 (11 + w))), (1, .ref (z.1 (ra + 20))), (2, .ref (z.1 (rb + 20))), (3, .int x3), (4, .int (x4 + 1))]) rfl ?_
    exact hk_13 x3 (x4 + 1) σ h
  · have h := sv_if c17 h
    refine sv_aload_n hC dX4_go_127 0 rfl rfl ?_
    refine sv_get hC in_X4 (11 + w) (sx_w (w := w) hw) rfl 0 (by decide) q155 rfl (v := .ref (z.1 (7 * w + 20))) rfl dX4_go_128 ?_
    refine sv_aload_n hC dX4_go_131 0 rfl rfl ?_
    refine sv_get hC in_X4 (11 + w) (sx_w (w := w) hw) rfl 2 (by decide) q159 rfl (v := .ref (z.1 (7 * w + 5 + 20))) rfl dX4_go_132 ?_
    refine sv_iload hC dX4_go_135 4 rfl ?_
    obtain ⟨j18, ej18, h⟩ := sv_ob h
    refine sv_iald hC (7 * w + 5 + 20) (f := σ.2 (7 * w + 5)) (sx_a (XA_fl (w := w) hw)) rfl (j := j18) ej18 dX4_go_137 ?_
    obtain ⟨j19, ej19, h⟩ := sv_ob h
    refine sv_iald hC (7 * w + 20) (f := σ.2 (7 * w)) (sx_a (XA_sd (w := w) hw)) rfl (j := j19) ej19 dX4_go_138 ?_
    refine sv_aload_n hC dX4_go_139 0 rfl rfl ?_
    refine sv_get hC in_X4 (11 + w) (sx_w (w := w) hw) rfl 6 (by decide) q165 rfl (v := .ref (z.1 0)) rfl dX4_go_140 ?_
    refine sv_getN hC in_X0 0 (sx_at (by decide)) rfl 1 (by decide) q225 rfl (v := .ref (z.1 2)) rfl dX4_go_143 ?_
    refine sv_iload hC dX4_go_146 4 rfl ?_
    obtain ⟨j20, ej20, h⟩ := sv_ob h
    refine sv_aldq hC 2 4 (sx_at (by decide)) rfl (j := j20) ej20 dX4_go_148 ?_
    obtain ⟨v21, ev21, h⟩ := sv_ob h
    refine sx_pVB (r := v21) (nn := 0) hC hz ev21 (by have hb := hz.2.1 _ _ ev21; have hm := met_intValue (l := sg_l Γ) hC.F hz.2.2.2.2.2.2 hb.1; rw [hb.2] at hm; exact hm) (lw_V q809 q750 q751 q77 q752) (by decide +kernel) ⟨by decide, by decide⟩ ⟨rfl, rfl⟩ rfl rfl (Nat.le_of_ble_eq_true rfl) ⟨Nat.le_refl 0, Nat.le_refl 0⟩ dX4_go_149 ?_
    refine sv_mmin hC q810 q422 q69 q423 (by decide) (Nat.le_of_ble_eq_true rfl) ⟨Nat.le_refl 0, Nat.le_refl 0⟩ dX4_go_152 ?_
    refine sv_istore hC dX4_go_155 (by decide) (lvq := [(5, .int (if v21 < σ.2 (7 * w) j19 then v21 else σ.2 (7 * w) j19)), (0, .ref (z.1 (11 + w))), (1, .ref (z.1 (ra + 20))), (2, .ref (z.1 (rb + 20))), (3, .int x3), (4, .int x4)]) rfl ?_
    refine sv_aload_n hC dX4_go_157 1 rfl rfl ?_
    refine sv_get hC in_X4 (11 + w) (sx_w (w := w) hw) rfl 0 (by decide) q155 rfl (v := .ref (z.1 (7 * w + 20))) rfl dX4_go_158 ?_
    refine sv_aload_n hC dX4_go_161 1 rfl rfl ?_
    refine sv_get hC in_X4 (11 + w) (sx_w (w := w) hw) rfl 2 (by decide) q159 rfl (v := .ref (z.1 (7 * w + 5 + 20))) rfl dX4_go_162 ?_
    refine sv_iload hC dX4_go_165 5 rfl ?_
    obtain ⟨j22, ej22, h⟩ := sv_ob h
    refine sv_iald hC (7 * w + 5 + 20) (f := σ.2 (7 * w + 5)) (sx_a (XA_fl (w := w) hw)) rfl (j := j22) ej22 dX4_go_167 ?_
    refine sv_dup2_11 hC dX4_go_168 rfl rfl ?_
    obtain ⟨j23, ej23, h⟩ := sv_ob h
    refine sv_iald hC (7 * w + 20) (f := σ.2 (7 * w)) (sx_a (XA_sd (w := w) hw)) rfl (j := j23) ej23 dX4_go_169 ?_
    refine sv_iload hC dX4_go_170 0 rfl ?_
    refine sv_isub hC dX4_go_172 ?_
    obtain ⟨j24, ej24, h⟩ := sv_ob h
    refine sv_iast hC (7 * w + 20) (f := σ.2 (7 * w)) (sx_a (XA_sd (w := w) hw)) rfl (j := j24) ej24 (Xq := SW (sg_dA Γ) z K (ms_a σ (7 * w) j24 ((σ.2 (7 * w) j23) - (if v21 < σ.2 (7 * w) j19 then v21 else σ.2 (7 * w) j19)))) (sx_as (XA_sd (w := w) hw)) dX4_go_173 ?_
    refine sv_aload_n hC dX4_go_174 1 rfl rfl ?_
    refine sv_get hC in_X4 (11 + w) (sx_w (w := w) hw) rfl 3 (by decide) q161 rfl (v := .ref (z.1 (7 * w + 6 + 20))) rfl dX4_go_175 ?_
    refine sv_aload_n hC dX4_go_178 1 rfl rfl ?_
    refine sv_get hC in_X4 (11 + w) (sx_w (w := w) hw) rfl 2 (by decide) q159 rfl (v := .ref (z.1 (7 * w + 5 + 20))) rfl dX4_go_179 ?_
    refine sv_iload hC dX4_go_182 5 rfl ?_
    obtain ⟨j25, ej25, h⟩ := sv_ob h
    refine sv_iald hC (7 * w + 5 + 20) (f := (ms_a σ (7 * w) j24 ((σ.2 (7 * w) j23) - (if v21 < σ.2 (7 * w) j19 then v21 else σ.2 (7 * w) j19))).2 (7 * w + 5)) (sx_a (XA_fl (w := w) hw)) rfl (j := j25) ej25 dX4_go_184 ?_
    refine sv_dup2_11 hC dX4_go_185 rfl rfl ?_
    obtain ⟨j26, ej26, h⟩ := sv_ob h
    refine sv_iald hC (7 * w + 6 + 20) (f := (ms_a σ (7 * w) j24 ((σ.2 (7 * w) j23) - (if v21 < σ.2 (7 * w) j19 then v21 else σ.2 (7 * w) j19))).2 (7 * w + 6)) (sx_a (XA_tk (w := w) hw)) rfl (j := j26) ej26 dX4_go_186 ?_
    refine sv_iload hC dX4_go_187 0 rfl ?_
    refine sv_iadd hC dX4_go_189 ?_
    obtain ⟨j27, ej27, h⟩ := sv_ob h
    refine sv_iast hC (7 * w + 6 + 20) (f := (ms_a σ (7 * w) j24 ((σ.2 (7 * w) j23) - (if v21 < σ.2 (7 * w) j19 then v21 else σ.2 (7 * w) j19))).2 (7 * w + 6)) (sx_a (XA_tk (w := w) hw)) rfl (j := j27) ej27 (Xq := SW (sg_dA Γ) z K (ms_a (ms_a σ (7 * w) j24 ((σ.2 (7 * w) j23) - (if v21 < σ.2 (7 * w) j19 then v21 else σ.2 (7 * w) j19))) (7 * w + 6) j27 (((ms_a σ (7 * w) j24 ((σ.2 (7 * w) j23) - (if v21 < σ.2 (7 * w) j19 then v21 else σ.2 (7 * w) j19))).2 (7 * w + 6) j26) + (if v21 < σ.2 (7 * w) j19 then v21 else σ.2 (7 * w) j19)))) (sx_as (XA_tk (w := w) hw)) dX4_go_190 ?_
    refine sv_iload_n hC dX4_go_191 4 rfl rfl ?_
    refine sv_iload hC dX4_go_192 0 rfl ?_
    refine sv_iadd hC dX4_go_194 ?_
    refine sv_istore_n hC dX4_go_195 rfl (by decide) (lvq := [(3, .int (x3 + (if v21 < σ.2 (7 * w) j19 then v21 else σ.2 (7 * w) j19))), (5, .int (if v21 < σ.2 (7 * w) j19 then v21 else σ.2 (7 * w) j19)), (0, .ref (z.1 (11 + w))), (1, .ref (z.1 (ra + 20))), (2, .ref (z.1 (rb + 20))), (4, .int x4)]) rfl ?_
    refine sv_iinc hC (v := x4 + 1) dX4_go_196 5 rfl rfl (by decide) (lvq := [(4, .int (x4 + 1)), (3, .int (x3 + (if v21 < σ.2 (7 * w) j19 then v21 else σ.2 (7 * w) j19))), (5, .int (if v21 < σ.2 (7 * w) j19 then v21 else σ.2 (7 * w) j19)), (0, .ref (z.1 (11 + w))), (1, .ref (z.1 (ra + 20))), (2, .ref (z.1 (rb + 20)))]) rfl ?_
    refine sv_goto hC (tgt := 13) dX4_go_199 (by decide) ?_
    refine sv_loc [3, 4, 5, 1, 0] (lvq := [(0, .ref (z.1 (11 + w))), (1, .ref (z.1 (ra + 20))), (2, .ref (z.1 (rb + 20))), (3, .int (x3 + (if v21 < σ.2 (7 * w) j19 then v21 else σ.2 (7 * w) j19))), (4, .int (x4 + 1))]) rfl ?_
    exact hk_13 (x3 + (if v21 < σ.2 (7 * w) j19 then v21 else σ.2 (7 * w) j19)) (x4 + 1) (ms_a (ms_a σ (7 * w) j24 ((σ.2 (7 * w) j23) - (if v21 < σ.2 (7 * w) j19 then v21 else σ.2 (7 * w) j19))) (7 * w + 6) j27 (((ms_a σ (7 * w) j24 ((σ.2 (7 * w) j23) - (if v21 < σ.2 (7 * w) j19 then v21 else σ.2 (7 * w) j19))).2 (7 * w + 6) j26) + (if v21 < σ.2 (7 * w) j19 then v21 else σ.2 (7 * w) j19))) h
set_option maxHeartbeats 2000000 in
theorem wk_xdX4_go_98 {Γ : sv_G} (z : XZ) (K : XK) (hz : SP (sg_s0 Γ) (sg_dA Γ) z K) (w : Nat) (ra : Nat) (rb : Nat) (hw : w < 3) (hra : XA ra 1 4) (hrb : XA rb 2 4) (hC : sv_C Γ cX4_go 7 RX4 (some .int) rm_X4_go) {r0 : Int32 × MSt} (hQ : sv_RQ Γ (sv_pI r0.1 (SW (sg_dA Γ) z K r0.2)) 0 0) (rk_13 : Int32 → Int32 → MSt → Option (Int32 × MSt)) (hk_13 : ∀ (x3 : Int32) (x4 : Int32) (σ : MSt), rk_13 x3 x4 σ = some r0 → sv_V Γ (SW (sg_dA Γ) z K σ) 0 0 13 [(0, .ref (z.1 (11 + w))), (1, .ref (z.1 (ra + 20))), (2, .ref (z.1 (rb + 20))), (3, .int x3), (4, .int x4)] []) (rk_30 : Int32 → Int32 → Int32 → MSt → Option (Int32 × MSt)) (hk_30 : ∀ (x3 : Int32) (x4 : Int32) (x5 : Int32) (σ : MSt), rk_30 x3 x4 x5 σ = some r0 → sv_V Γ (SW (sg_dA Γ) z K σ) 0 0 30 [(0, .ref (z.1 (11 + w))), (1, .ref (z.1 (ra + 20))), (2, .ref (z.1 (rb + 20))), (3, .int x3), (4, .int x4), (5, .int x5)] []) (x3 : Int32) (x4 : Int32) (x5 : Int32) (t0 : Int32) (t1 : Int32) (σ : MSt)  (h : xdX4_go_98 K w ra rb rk_13 rk_30 x3 x4 x5 t0 t1 σ = some r0) : sv_V Γ (SW (sg_dA Γ) z K σ) 0 0 98 [(0, .ref (z.1 (11 + w))), (1, .ref (z.1 (ra + 20))), (2, .ref (z.1 (rb + 20))), (3, .int x3), (4, .int x4), (5, .int x5)] [.int t1, .int t0] := by
  unfold xdX4_go_98 at h
  refine sv_icmp_le hC (tgt := 110) dX4_go_98 (by decide) (fun c14 => ?_) (fun c14 => ?_)
  · have h := sv_it c14 h
    refine sv_iinc hC (v := x5 + 1) dX4_go_110 5 rfl rfl (by decide) (lvq := [(5, .int (x5 + 1)), (0, .ref (z.1 (11 + w))), (1, .ref (z.1 (ra + 20))), (2, .ref (z.1 (rb + 20))), (3, .int x3), (4, .int x4)]) rfl ?_
    refine sv_goto hC (tgt := 30) dX4_go_113 (by decide) ?_
    refine sv_loc [1, 2, 3, 4, 5, 0] (lvq := [(0, .ref (z.1 (11 + w))), (1, .ref (z.1 (ra + 20))), (2, .ref (z.1 (rb + 20))), (3, .int x3), (4, .int x4), (5, .int (x5 + 1))]) rfl ?_
    exact hk_30 x3 x4 (x5 + 1) σ h
  · have h := sv_if c14 h
    refine sv_aload_n hC dX4_go_101 0 rfl rfl ?_
    refine sv_get hC in_X4 (11 + w) (sx_w (w := w) hw) rfl 2 (by decide) q159 rfl (v := .ref (z.1 (7 * w + 5 + 20))) rfl dX4_go_102 ?_
    refine sv_iload hC dX4_go_105 4 rfl ?_
    refine sv_iload hC dX4_go_107 5 rfl ?_
    obtain ⟨j15, ej15, h⟩ := sv_ob h
    refine sv_iast hC (7 * w + 5 + 20) (f := σ.2 (7 * w + 5)) (sx_a (XA_fl (w := w) hw)) rfl (j := j15) ej15 (Xq := SW (sg_dA Γ) z K (ms_a σ (7 * w + 5) j15 x5)) (sx_as (XA_fl (w := w) hw)) dX4_go_109 ?_
    refine sv_iinc hC (v := x5 + 1) dX4_go_110 5 rfl rfl (by decide) (lvq := [(5, .int (x5 + 1)), (0, .ref (z.1 (11 + w))), (1, .ref (z.1 (ra + 20))), (2, .ref (z.1 (rb + 20))), (3, .int x3), (4, .int x4)]) rfl ?_
    refine sv_goto hC (tgt := 30) dX4_go_113 (by decide) ?_
    refine sv_loc [1, 2, 3, 4, 5, 0] (lvq := [(0, .ref (z.1 (11 + w))), (1, .ref (z.1 (ra + 20))), (2, .ref (z.1 (rb + 20))), (3, .int x3), (4, .int x4), (5, .int (x5 + 1))]) rfl ?_
    exact hk_30 x3 x4 (x5 + 1) (ms_a σ (7 * w + 5) j15 x5) h
set_option maxHeartbeats 2000000 in
theorem wk_xdX4_go_30b {Γ : sv_G} (z : XZ) (K : XK) (hz : SP (sg_s0 Γ) (sg_dA Γ) z K) (w : Nat) (ra : Nat) (rb : Nat) (hw : w < 3) (hra : XA ra 1 4) (hrb : XA rb 2 4) (hC : sv_C Γ cX4_go 7 RX4 (some .int) rm_X4_go) {r0 : Int32 × MSt} (hQ : sv_RQ Γ (sv_pI r0.1 (SW (sg_dA Γ) z K r0.2)) 0 0) (rk_13 : Int32 → Int32 → MSt → Option (Int32 × MSt)) (hk_13 : ∀ (x3 : Int32) (x4 : Int32) (σ : MSt), rk_13 x3 x4 σ = some r0 → sv_V Γ (SW (sg_dA Γ) z K σ) 0 0 13 [(0, .ref (z.1 (11 + w))), (1, .ref (z.1 (ra + 20))), (2, .ref (z.1 (rb + 20))), (3, .int x3), (4, .int x4)] []) (rk_30 : Int32 → Int32 → Int32 → MSt → Option (Int32 × MSt)) (hk_30 : ∀ (x3 : Int32) (x4 : Int32) (x5 : Int32) (σ : MSt), rk_30 x3 x4 x5 σ = some r0 → sv_V Γ (SW (sg_dA Γ) z K σ) 0 0 30 [(0, .ref (z.1 (11 + w))), (1, .ref (z.1 (ra + 20))), (2, .ref (z.1 (rb + 20))), (3, .int x3), (4, .int x4), (5, .int x5)] []) (x3 : Int32) (x4 : Int32) (x5 : Int32) (σ : MSt)  (h : xdX4_go_30b K w ra rb rk_13 rk_30 x3 x4 x5 σ = some r0) : sv_V Γ (SW (sg_dA Γ) z K σ) 0 0 30 [(0, .ref (z.1 (11 + w))), (1, .ref (z.1 (ra + 20))), (2, .ref (z.1 (rb + 20))), (3, .int x3), (4, .int x4), (5, .int x5)] [] := by
  unfold xdX4_go_30b at h
  refine sv_iload hC dX4_go_30 5 rfl ?_
  refine sv_iconst hC (v := 4) dX4_go_32 (by decide) ?_
  refine sv_icmp_ge hC (tgt := 116) dX4_go_33 (by decide) (fun c4 => ?_) (fun c4 => ?_)
  · have h := sv_it c4 h
    refine sv_loc [0, 1, 2, 3, 4] (lvq := [(0, .ref (z.1 (11 + w))), (1, .ref (z.1 (ra + 20))), (2, .ref (z.1 (rb + 20))), (3, .int x3), (4, .int x4)]) rfl ?_
    exact wk_xdX4_go_116 z K hz w ra rb hw hra hrb hC hQ rk_13 hk_13 x3 x4 σ h
  · have h := sv_if c4 h
    refine sv_aload_n hC dX4_go_36 0 rfl rfl ?_
    refine sv_get hC in_X4 (11 + w) (sx_w (w := w) hw) rfl 6 (by decide) q165 rfl (v := .ref (z.1 0)) rfl dX4_go_37 ?_
    refine sv_iload hC dX4_go_40 4 rfl ?_
    obtain ⟨r5, er5, h⟩ := sv_ob h
    refine sv_wVNi (nn := 1) hC (met_xdX0_isFlock hC.F z K hz σ x4 er5) 0 1 (sx_at (by decide)) rfl rfl q800 (lw_meth q748) q747 qs7 q52 (by decide +kernel) ⟨by decide, by decide⟩ ⟨rfl, rfl⟩ rfl rfl (Nat.le_of_ble_eq_true rfl) ⟨Nat.le_refl 0, Nat.le_refl 0⟩ dX4_go_42 ?_
    refine sv_if_eq hC (tgt := 116) dX4_go_45 (by decide) (fun c6 => ?_) (fun c6 => ?_)
    · have h := sv_it c6 h
      refine sv_loc [0, 1, 2, 3, 4] (lvq := [(0, .ref (z.1 (11 + w))), (1, .ref (z.1 (ra + 20))), (2, .ref (z.1 (rb + 20))), (3, .int x3), (4, .int x4)]) rfl ?_
      exact wk_xdX4_go_116 z K hz w ra rb hw hra hrb hC hQ rk_13 hk_13 x3 x4 σ h
    · have h := sv_if c6 h
      refine sv_aload_n hC dX4_go_48 0 rfl rfl ?_
      refine sv_get hC in_X4 (11 + w) (sx_w (w := w) hw) rfl 6 (by decide) q165 rfl (v := .ref (z.1 0)) rfl dX4_go_49 ?_
      refine sv_iload hC dX4_go_52 5 rfl ?_
      obtain ⟨r7, er7, h⟩ := sv_ob h
      refine sv_wVNi (nn := 1) hC (met_xdX0_isField hC.F z K hz σ x5 er7) 0 1 (sx_at (by decide)) rfl rfl q791 (lw_meth q739) q738 qs6 q52 (by decide +kernel) ⟨by decide, by decide⟩ ⟨rfl, rfl⟩ rfl rfl (Nat.le_of_ble_eq_true rfl) ⟨Nat.le_refl 0, Nat.le_refl 0⟩ dX4_go_54 ?_
      refine sv_if_eq hC (tgt := 110) dX4_go_57 (by decide) (fun c8 => ?_) (fun c8 => ?_)
      · have h := sv_it c8 h
        refine sv_iinc hC (v := x5 + 1) dX4_go_110 5 rfl rfl (by decide) (lvq := [(5, .int (x5 + 1)), (0, .ref (z.1 (11 + w))), (1, .ref (z.1 (ra + 20))), (2, .ref (z.1 (rb + 20))), (3, .int x3), (4, .int x4)]) rfl ?_
        refine sv_goto hC (tgt := 30) dX4_go_113 (by decide) ?_
        refine sv_loc [1, 2, 3, 4, 5, 0] (lvq := [(0, .ref (z.1 (11 + w))), (1, .ref (z.1 (ra + 20))), (2, .ref (z.1 (rb + 20))), (3, .int x3), (4, .int x4), (5, .int (x5 + 1))]) rfl ?_
        exact hk_30 x3 x4 (x5 + 1) σ h
      · have h := sv_if c8 h
        refine sv_aload_n hC dX4_go_60 0 rfl rfl ?_
        refine sv_aload_n hC dX4_go_61 1 rfl rfl ?_
        refine sv_iload hC dX4_go_62 4 rfl ?_
        refine sv_iload hC dX4_go_64 5 rfl ?_
        obtain ⟨r9, er9, h⟩ := sv_ob h
        refine sv_wVi (nn := 3) hC (met_xdX4_worth hC.F z K hz w ra hw hra σ x4 x5 er9) (11 + w) 5 (sx_w (w := w) hw) rfl rfl (lw_V q801 q803 qs10 q57 q804) (by decide +kernel) ⟨by decide, by decide⟩ ⟨rfl, rfl⟩ rfl rfl (Nat.le_of_ble_eq_true rfl) ⟨Nat.le_refl 0, Nat.le_refl 0⟩ dX4_go_66 ?_
        refine sv_aload_n hC dX4_go_69 0 rfl rfl ?_
        refine sv_get hC in_X4 (11 + w) (sx_w (w := w) hw) rfl 2 (by decide) q159 rfl (v := .ref (z.1 (7 * w + 5 + 20))) rfl dX4_go_70 ?_
        refine sv_iload hC dX4_go_73 4 rfl ?_
        obtain ⟨j10, ej10, h⟩ := sv_ob h
        refine sv_iald hC (7 * w + 5 + 20) (f := σ.2 (7 * w + 5)) (sx_a (XA_fl (w := w) hw)) rfl (j := j10) ej10 dX4_go_75 ?_
        refine sv_iconst hC (v := (-1)) dX4_go_76 (by decide) ?_
        refine sv_icmp_ne hC (tgt := 84) dX4_go_77 (by decide) (fun c11 => ?_) (fun c11 => ?_)
        · have h := sv_if c11 h
          refine sv_aload_n hC dX4_go_84 0 rfl rfl ?_
          refine sv_aload_n hC dX4_go_85 1 rfl rfl ?_
          refine sv_iload hC dX4_go_86 4 rfl ?_
          refine sv_aload_n hC dX4_go_88 0 rfl rfl ?_
          refine sv_get hC in_X4 (11 + w) (sx_w (w := w) hw) rfl 2 (by decide) q159 rfl (v := .ref (z.1 (7 * w + 5 + 20))) rfl dX4_go_89 ?_
          refine sv_iload hC dX4_go_92 4 rfl ?_
          obtain ⟨j12, ej12, h⟩ := sv_ob h
          refine sv_iald hC (7 * w + 5 + 20) (f := σ.2 (7 * w + 5)) (sx_a (XA_fl (w := w) hw)) rfl (j := j12) ej12 dX4_go_94 ?_
          obtain ⟨r13, er13, h⟩ := sv_ob h
          refine sv_wVi (nn := 3) hC (met_xdX4_worth hC.F z K hz w ra hw hra σ x4 (σ.2 (7 * w + 5) j12) er13) (11 + w) 5 (sx_w (w := w) hw) rfl rfl (lw_V q801 q803 qs10 q57 q804) (by decide +kernel) ⟨by decide, by decide⟩ ⟨rfl, rfl⟩ rfl rfl (Nat.le_of_ble_eq_true rfl) ⟨Nat.le_refl 0, Nat.le_refl 0⟩ dX4_go_95 ?_
          exact wk_xdX4_go_98 z K hz w ra rb hw hra hrb hC hQ rk_13 hk_13 rk_30 hk_30 x3 x4 x5 r9 r13 σ h
        · have h := sv_it c11 h
          refine sv_iconst hC (v := 0) dX4_go_80 (by decide) ?_
          refine sv_goto hC (tgt := 98) dX4_go_81 (by decide) ?_
          exact wk_xdX4_go_98 z K hz w ra rb hw hra hrb hC hQ rk_13 hk_13 rk_30 hk_30 x3 x4 x5 r9 0 σ h
set_option maxHeartbeats 2000000 in
theorem wk_xdX4_go_30 {Γ : sv_G} (z : XZ) (K : XK) (hz : SP (sg_s0 Γ) (sg_dA Γ) z K) (w : Nat) (ra : Nat) (rb : Nat) (hw : w < 3) (hra : XA ra 1 4) (hrb : XA rb 2 4) (hC : sv_C Γ cX4_go 7 RX4 (some .int) rm_X4_go) {r0 : Int32 × MSt} (hQ : sv_RQ Γ (sv_pI r0.1 (SW (sg_dA Γ) z K r0.2)) 0 0) (rk_13 : Int32 → Int32 → MSt → Option (Int32 × MSt)) (hk_13 : ∀ (x3 : Int32) (x4 : Int32) (σ : MSt), rk_13 x3 x4 σ = some r0 → sv_V Γ (SW (sg_dA Γ) z K σ) 0 0 13 [(0, .ref (z.1 (11 + w))), (1, .ref (z.1 (ra + 20))), (2, .ref (z.1 (rb + 20))), (3, .int x3), (4, .int x4)] []) : ∀ (n : Nat) (x3 : Int32) (x4 : Int32) (x5 : Int32) (σ : MSt)  (h : xdX4_go_30 K w ra rb rk_13 n x3 x4 x5 σ = some r0), sv_V Γ (SW (sg_dA Γ) z K σ) 0 0 30 [(0, .ref (z.1 (11 + w))), (1, .ref (z.1 (ra + 20))), (2, .ref (z.1 (rb + 20))), (3, .int x3), (4, .int x4), (5, .int x5)] [] := by
  intro n
  induction n with
  | zero => intro x3 x4 x5 σ h; cases h
  | succ n ih => intro x3 x4 x5 σ h; exact wk_xdX4_go_30b z K hz w ra rb hw hra hrb hC hQ rk_13 hk_13 (xdX4_go_30 K w ra rb rk_13 n) ih x3 x4 x5 σ h
set_option maxHeartbeats 2000000 in
theorem wk_xdX4_go_13b {Γ : sv_G} (z : XZ) (K : XK) (hz : SP (sg_s0 Γ) (sg_dA Γ) z K) (w : Nat) (ra : Nat) (rb : Nat) (hw : w < 3) (hra : XA ra 1 4) (hrb : XA rb 2 4) (hC : sv_C Γ cX4_go 7 RX4 (some .int) rm_X4_go) {r0 : Int32 × MSt} (hQ : sv_RQ Γ (sv_pI r0.1 (SW (sg_dA Γ) z K r0.2)) 0 0)  (rk_13 : Int32 → Int32 → MSt → Option (Int32 × MSt)) (hk_13 : ∀ (x3 : Int32) (x4 : Int32) (σ : MSt), rk_13 x3 x4 σ = some r0 → sv_V Γ (SW (sg_dA Γ) z K σ) 0 0 13 [(0, .ref (z.1 (11 + w))), (1, .ref (z.1 (ra + 20))), (2, .ref (z.1 (rb + 20))), (3, .int x3), (4, .int x4)] []) (x3 : Int32) (x4 : Int32) (σ : MSt)  (h : xdX4_go_13b K w ra rb rk_13 x3 x4 σ = some r0) : sv_V Γ (SW (sg_dA Γ) z K σ) 0 0 13 [(0, .ref (z.1 (11 + w))), (1, .ref (z.1 (ra + 20))), (2, .ref (z.1 (rb + 20))), (3, .int x3), (4, .int x4)] [] := by
  unfold xdX4_go_13b at h
  refine sv_iload hC dX4_go_13 4 rfl ?_
  refine sv_iconst hC (v := 4) dX4_go_15 (by decide) ?_
  refine sv_icmp_ge hC (tgt := 202) dX4_go_16 (by decide) (fun c2 => ?_) (fun c2 => ?_)
  · have h := sv_it c2 h
    refine sv_iconst hC (v := 0) dX4_go_202 (by decide) ?_
    refine sv_istore hC dX4_go_203 (by decide) (lvq := [(4, .int 0), (0, .ref (z.1 (11 + w))), (1, .ref (z.1 (ra + 20))), (2, .ref (z.1 (rb + 20))), (3, .int x3)]) rfl ?_
    refine sv_loc [1, 2, 3, 4, 0] (lvq := [(0, .ref (z.1 (11 + w))), (1, .ref (z.1 (ra + 20))), (2, .ref (z.1 (rb + 20))), (3, .int x3), (4, .int 0)]) rfl ?_
    exact wk_xdX4_go_205 z K hz w ra rb hw hra hrb hC hQ sv_FU x3 0 σ h
  · have h := sv_if c2 h
    refine sv_aload_n hC dX4_go_19 0 rfl rfl ?_
    refine sv_get hC in_X4 (11 + w) (sx_w (w := w) hw) rfl 2 (by decide) q159 rfl (v := .ref (z.1 (7 * w + 5 + 20))) rfl dX4_go_20 ?_
    refine sv_iload hC dX4_go_23 4 rfl ?_
    refine sv_iconst hC (v := (-1)) dX4_go_25 (by decide) ?_
    obtain ⟨j3, ej3, h⟩ := sv_ob h
    refine sv_iast hC (7 * w + 5 + 20) (f := σ.2 (7 * w + 5)) (sx_a (XA_fl (w := w) hw)) rfl (j := j3) ej3 (Xq := SW (sg_dA Γ) z K (ms_a σ (7 * w + 5) j3 (-1))) (sx_as (XA_fl (w := w) hw)) dX4_go_26 ?_
    refine sv_iconst hC (v := 0) dX4_go_27 (by decide) ?_
    refine sv_istore hC dX4_go_28 (by decide) (lvq := [(5, .int 0), (0, .ref (z.1 (11 + w))), (1, .ref (z.1 (ra + 20))), (2, .ref (z.1 (rb + 20))), (3, .int x3), (4, .int x4)]) rfl ?_
    refine sv_loc [1, 2, 3, 4, 5, 0] (lvq := [(0, .ref (z.1 (11 + w))), (1, .ref (z.1 (ra + 20))), (2, .ref (z.1 (rb + 20))), (3, .int x3), (4, .int x4), (5, .int 0)]) rfl ?_
    exact wk_xdX4_go_30 z K hz w ra rb hw hra hrb hC hQ rk_13 hk_13 sv_FU x3 x4 0 (ms_a σ (7 * w + 5) j3 (-1)) h
set_option maxHeartbeats 2000000 in
theorem wk_xdX4_go_13 {Γ : sv_G} (z : XZ) (K : XK) (hz : SP (sg_s0 Γ) (sg_dA Γ) z K) (w : Nat) (ra : Nat) (rb : Nat) (hw : w < 3) (hra : XA ra 1 4) (hrb : XA rb 2 4) (hC : sv_C Γ cX4_go 7 RX4 (some .int) rm_X4_go) {r0 : Int32 × MSt} (hQ : sv_RQ Γ (sv_pI r0.1 (SW (sg_dA Γ) z K r0.2)) 0 0)  : ∀ (n : Nat) (x3 : Int32) (x4 : Int32) (σ : MSt)  (h : xdX4_go_13 K w ra rb n x3 x4 σ = some r0), sv_V Γ (SW (sg_dA Γ) z K σ) 0 0 13 [(0, .ref (z.1 (11 + w))), (1, .ref (z.1 (ra + 20))), (2, .ref (z.1 (rb + 20))), (3, .int x3), (4, .int x4)] [] := by
  intro n
  induction n with
  | zero => intro x3 x4 σ h; cases h
  | succ n ih => intro x3 x4 σ h; exact wk_xdX4_go_13b z K hz w ra rb hw hra hrb hC hQ (xdX4_go_13 K w ra rb n) ih x3 x4 σ h
set_option maxHeartbeats 2000000 in
theorem wk_xdX4_go {Γ : sv_G} (z : XZ) (K : XK) (hz : SP (sg_s0 Γ) (sg_dA Γ) z K) (w : Nat) (ra : Nat) (rb : Nat) (hw : w < 3) (hra : XA ra 1 4) (hrb : XA rb 2 4) (hC : sv_C Γ cX4_go 7 RX4 (some .int) rm_X4_go) {r0 : Int32 × MSt} (hQ : sv_RQ Γ (sv_pI r0.1 (SW (sg_dA Γ) z K r0.2)) 0 0) (σ : MSt) (h : xdX4_go K w ra rb σ = some r0) : sv_V Γ (SW (sg_dA Γ) z K σ) 0 0 0 [(0, .ref (z.1 (11 + w))), (1, .ref (z.1 (ra + 20))), (2, .ref (z.1 (rb + 20)))] [] := by
  unfold xdX4_go at h
  refine sv_iconst hC (v := 0) dX4_go_0 (by decide) ?_
  refine sv_istore_n hC dX4_go_1 rfl (by decide) (lvq := [(3, .int 0), (0, .ref (z.1 (11 + w))), (1, .ref (z.1 (ra + 20))), (2, .ref (z.1 (rb + 20)))]) rfl ?_
  refine sv_aload_n hC dX4_go_2 1 rfl rfl ?_
  refine sv_get hC in_X4 (11 + w) (sx_w (w := w) hw) rfl 3 (by decide) q161 rfl (v := .ref (z.1 (7 * w + 6 + 20))) rfl dX4_go_3 ?_
  refine sv_iconst hC (v := 0) dX4_go_6 (by decide) ?_
  obtain ⟨f1, ef1, h⟩ := sv_ob h
  refine sv_cS (nn := 2) (c' := (z.1 (7 * w + 6 + 20), .inl (sg_dA Γ 0, 4, .inl f1))) hC (7 * w + 6 + 20) (sx_a (XA_tk (w := w) hw)) rfl (met_jd_J0_fill_2 hC.F (z.1 (7 * w + 6 + 20)) 4 0 (σ.2 (7 * w + 6)) ef1) (lw_S q797 q798 q56 q799) (X' := SW (sg_dA Γ) z K (ms_w σ (7 * w + 6) f1)) (sx_aw (XA_tk (w := w) hw) _) (by decide +kernel) ⟨by decide, by decide⟩ ⟨rfl, rfl⟩ rfl rfl (Nat.le_of_ble_eq_true rfl) ⟨Nat.le_refl 0, Nat.le_refl 0⟩ dX4_go_7 ?_
  refine sv_iconst hC (v := 0) dX4_go_10 (by decide) ?_
  refine sv_istore hC dX4_go_11 (by decide) (lvq := [(4, .int 0), (3, .int 0), (0, .ref (z.1 (11 + w))), (1, .ref (z.1 (ra + 20))), (2, .ref (z.1 (rb + 20)))]) rfl ?_
  refine sv_loc [2, 3, 4, 1, 0] (lvq := [(0, .ref (z.1 (11 + w))), (1, .ref (z.1 (ra + 20))), (2, .ref (z.1 (rb + 20))), (3, .int 0), (4, .int 0)]) rfl ?_
  exact wk_xdX4_go_13 z K hz w ra rb hw hra hrb hC hQ sv_FU 0 0 (ms_w σ (7 * w + 6) f1) h
set_option maxHeartbeats 2000000 in
theorem met_xdX4_go {l : Launch} {s0 : State} {D : va_G} {dA : Nat → ClassId} (hF : sv_F s0 D dA) (z : XZ) (K : XK) (hz : SP s0 dA z K) (w : Nat) (ra : Nat) (rb : Nat) (hw : w < 3) (hra : XA ra 1 4) (hrb : XA rb 2 4) (σ : MSt) {r0 : Int32 × MSt} (h : xdX4_go K w ra rb σ = some r0) : sv_M l s0 D yX4_go cX4_go 7 (some .int) rm_X4_go [.ref (z.1 (11 + w)), .ref (z.1 (ra + 20)), .ref (z.1 (rb + 20))] (SW dA z K σ) (sv_pI r0.1 (SW dA z K r0.2)) :=
  sv_met hF (by decide) (Nat.le_of_ble_eq_true rfl) (fun Γ hC hQ hmn e1 e2 e3 e4 => by
    subst e1 e2 e3 e4
    exact wk_xdX4_go z K hz w ra rb hw hra hrb hC hQ σ h)
