/-! THE MODEL's METHODS: their walks (printed by gen_model.py) -/
set_option maxRecDepth 100000
set_option maxHeartbeats 2000000 in
theorem wk_md_in {Γ : sv_G}  (hC : sv_C Γ cX6_in 6 RX6 (some .boolean) rm_X6_in) {r0 : Int32} (hQ : sv_RQ Γ (sv_pI r0 []) 0 0) (x0 : Int64) (x2 : Int64) (x4 : Int64) (h : md_in x0 x2 x4 = some r0) : sv_V Γ ([]) 0 0 0 [(0, .long x0), (2, .long x2), (4, .long x4)] [] := by
  unfold md_in at h
  refine sv_lload_n hC dX6_in_0 0 rfl rfl ?_
  refine sv_lload_n hC dX6_in_1 1 rfl rfl ?_
  refine sv_lcmp hC dX6_in_2 ?_
  refine sv_if_lt hC (tgt := 17) dX6_in_3 (by decide) (fun c1 => ?_) (fun c1 => ?_)
  · have h := sv_it c1 h
    refine sv_iconst hC (v := 0) dX6_in_17 (by decide) ?_
    exact sv_zret hC hQ dX6_in_18 rfl (by have e := Option.some.inj h; subst e; exact ⟨rfl, rfl⟩)
  · have h := sv_if c1 h
    refine sv_lload_n hC dX6_in_6 0 rfl rfl ?_
    refine sv_lload hC dX6_in_7 2 rfl ?_
    refine sv_lcmp hC dX6_in_9 ?_
    refine sv_if_gt hC (tgt := 17) dX6_in_10 (by decide) (fun c2 => ?_) (fun c2 => ?_)
    · have h := sv_it c2 h
      refine sv_iconst hC (v := 0) dX6_in_17 (by decide) ?_
      exact sv_zret hC hQ dX6_in_18 rfl (by have e := Option.some.inj h; subst e; exact ⟨rfl, rfl⟩)
    · have h := sv_if c2 h
      refine sv_iconst hC (v := 1) dX6_in_13 (by decide) ?_
      refine sv_goto hC (tgt := 18) dX6_in_14 (by decide) ?_
      exact sv_zret hC hQ dX6_in_18 rfl (by have e := Option.some.inj h; subst e; exact ⟨rfl, rfl⟩)
set_option maxHeartbeats 2000000 in
theorem met_md_in {l : Launch} {s0 : State} {D : va_G} {dA : Nat → ClassId} (hF : sv_F s0 D dA)  (x0 : Int64) (x2 : Int64) (x4 : Int64) {r0 : Int32} (h : md_in x0 x2 x4 = some r0) : sv_M l s0 D yX6_in cX6_in 6 (some .boolean) rm_X6_in [.long x0, .long x2, .long x4] ([]) (sv_pI r0 []) :=
  sv_met hF (by decide) (Nat.le_of_ble_eq_true rfl) (fun Γ hC hQ hmn e1 e2 e3 e4 => by
    subst e1 e2 e3 e4
    exact wk_md_in hC hQ x0 x2 x4 h)
set_option maxHeartbeats 2000000 in
theorem wk_md_write_33b {Γ : sv_G} (ho : Nat) (a : Nat → Nat) (hC : sv_C Γ cX6_write 5 RX6 (some .int) rm_X6_write) {r0 : Int32 × MSt} (hQ : sv_RQ Γ (sv_pI r0.1 (MW (sg_dA Γ) ho a r0.2)) 0 0)  (rk_33 : Int64 → Int32 → Int32 → MSt → Option (Int32 × MSt)) (hk_33 : ∀ (x1 : Int64) (x3 : Int32) (x4 : Int32) (σ : MSt), rk_33 x1 x3 x4 σ = some r0 → sv_V Γ (MW (sg_dA Γ) ho a σ) 0 0 33 [(0, .ref ho), (1, .long x1), (3, .int x3), (4, .int x4)] []) (x1 : Int64) (x3 : Int32) (x4 : Int32) (σ : MSt)  (h : md_write_33b rk_33 x1 x3 x4 σ = some r0) : sv_V Γ (MW (sg_dA Γ) ho a σ) 0 0 33 [(0, .ref ho), (1, .long x1), (3, .int x3), (4, .int x4)] [] := by
  unfold md_write_33b at h
  refine sv_iload hC dX6_write_33 3 rfl ?_
  refine sv_iload_n hC dX6_write_35 2 rfl rfl ?_
  refine sv_icmp_ge hC (tgt := 76) dX6_write_36 (by decide) (fun c4 => ?_) (fun c4 => ?_)
  · have h := sv_it c4 h
    refine sv_aload_n hC dX6_write_76 0 rfl rfl ?_
    refine sv_get hC in_X6 0 rfl rfl 1 (by decide) q1057 rfl (v := .int (σ.1 1)) rfl dX6_write_77 ?_
    exact sv_iret hC hQ dX6_write_80 (by have e := Option.some.inj h; subst e; exact ⟨rfl, rfl⟩)
  · have h := sv_if c4 h
    refine sv_aload_n hC dX6_write_39 0 rfl rfl ?_
    refine sv_get hC in_X6 0 rfl rfl 0 (by decide) q1056 rfl (v := .ref (a 0)) rfl dX6_write_40 ?_
    refine sv_aload_n hC dX6_write_43 0 rfl rfl ?_
    refine sv_get hC in_X6 0 rfl rfl 1 (by decide) q1057 rfl (v := .int (σ.1 1)) rfl dX6_write_44 ?_
    refine sv_lload_n hC dX6_write_47 1 rfl rfl ?_
    refine sv_bipush hC (v := 8) dX6_write_48 (by decide) ?_
    refine sv_iload hC dX6_write_50 3 rfl ?_
    refine sv_imul hC dX6_write_52 ?_
    refine sv_lshr hC dX6_write_53 ?_
    refine sv_ldc2 hC dX6_write_54 q1185 ?_
    refine sv_land hC dX6_write_57 ?_
    refine sv_l2i hC dX6_write_58 ?_
    obtain ⟨j5, ej5, h⟩ := sv_ob h
    refine sv_iast hC 1 (f := σ.2 0) rfl rfl (j := j5) ej5 (Xq := MW (sg_dA Γ) ho a (ms_a σ 0 j5 (((x1 >>> ((8 * x4).toInt64 &&& 63)) &&& 255).toInt32))) rfl dX6_write_59 ?_
    refine sv_aload_n hC dX6_write_60 0 rfl rfl ?_
    refine sv_dup hC dX6_write_61 rfl ?_
    refine sv_get hC in_X6 0 rfl rfl 1 (by decide) q1057 rfl (v := .int (σ.1 1)) rfl dX6_write_62 ?_
    refine sv_iconst hC (v := 1) dX6_write_65 (by decide) ?_
    refine sv_iadd hC dX6_write_66 ?_
    refine sv_put hC in_X6 tyX6 tyX6_ok nmX6 0 rfl rfl 1 (by decide) q1057 rfl rfl rfl rfl (Nat.le_of_ble_eq_true rfl) (Xq := MW (sg_dA Γ) ho a (ms_s (ms_a σ 0 j5 (((x1 >>> ((8 * x4).toInt64 &&& 63)) &&& 255).toInt32)) 1 ((σ.1 1) + 1))) rfl dX6_write_67 ?_
    refine sv_iinc hC (v := x4 + 1) dX6_write_70 3 rfl rfl (by decide) (lvq := [(4, .int (x4 + 1)), (0, .ref ho), (1, .long x1), (3, .int x3)]) rfl ?_
    refine sv_goto hC (tgt := 33) dX6_write_73 (by decide) ?_
    refine sv_loc [1, 2, 3, 0] (lvq := [(0, .ref ho), (1, .long x1), (3, .int x3), (4, .int (x4 + 1))]) rfl ?_
    exact hk_33 x1 x3 (x4 + 1) (ms_s (ms_a σ 0 j5 (((x1 >>> ((8 * x4).toInt64 &&& 63)) &&& 255).toInt32)) 1 ((σ.1 1) + 1)) h
set_option maxHeartbeats 2000000 in
theorem wk_md_write_33 {Γ : sv_G} (ho : Nat) (a : Nat → Nat) (hC : sv_C Γ cX6_write 5 RX6 (some .int) rm_X6_write) {r0 : Int32 × MSt} (hQ : sv_RQ Γ (sv_pI r0.1 (MW (sg_dA Γ) ho a r0.2)) 0 0)  : ∀ (n : Nat) (x1 : Int64) (x3 : Int32) (x4 : Int32) (σ : MSt)  (h : md_write_33 n x1 x3 x4 σ = some r0), sv_V Γ (MW (sg_dA Γ) ho a σ) 0 0 33 [(0, .ref ho), (1, .long x1), (3, .int x3), (4, .int x4)] [] := by
  intro n
  induction n with
  | zero => intro x1 x3 x4 σ h; cases h
  | succ n ih => intro x1 x3 x4 σ h; exact wk_md_write_33b ho a hC hQ (md_write_33 n) ih x1 x3 x4 σ h
set_option maxHeartbeats 2000000 in
theorem wk_md_write {Γ : sv_G} (ho : Nat) (a : Nat → Nat) (hC : sv_C Γ cX6_write 5 RX6 (some .int) rm_X6_write) {r0 : Int32 × MSt} (hQ : sv_RQ Γ (sv_pI r0.1 (MW (sg_dA Γ) ho a r0.2)) 0 0) (x1 : Int64) (x3 : Int32) (σ : MSt) (h : md_write x1 x3 σ = some r0) : sv_V Γ (MW (sg_dA Γ) ho a σ) 0 0 0 [(0, .ref ho), (1, .long x1), (3, .int x3)] [] := by
  unfold md_write at h
  refine sv_iload_n hC dX6_write_0 2 rfl rfl ?_
  refine sv_i2l hC dX6_write_1 ?_
  refine sv_lconst hC (v := 1) dX6_write_2 (by decide) ?_
  refine sv_ldc2 hC dX6_write_3 q1181 ?_
  obtain ⟨r1, er1, h⟩ := sv_ob h
  refine sv_pSi (nn := 3) hC (met_md_in hC.F x3.toInt64 1 8 er1) (lw_S q1182 q1183 q62 q1184) (by decide +kernel) ⟨by decide, by decide⟩ ⟨rfl, rfl⟩ rfl rfl (Nat.le_of_ble_eq_true rfl) ⟨Nat.le_refl 0, Nat.le_refl 0⟩ dX6_write_6 ?_
  refine sv_if_ne hC (tgt := 15) dX6_write_9 (by decide) (fun c2 => ?_) (fun c2 => ?_)
  · have h := sv_if c2 h
    refine sv_aload_n hC dX6_write_15 0 rfl rfl ?_
    refine sv_get hC in_X6 0 rfl rfl 1 (by decide) q1057 rfl (v := .int (σ.1 1)) rfl dX6_write_16 ?_
    refine sv_iload_n hC dX6_write_19 2 rfl rfl ?_
    refine sv_iadd hC dX6_write_20 ?_
    refine sv_sipush hC (v := 200) dX6_write_21 (by decide) ?_
    refine sv_icmp_le hC (tgt := 30) dX6_write_24 (by decide) (fun c3 => ?_) (fun c3 => ?_)
    · have h := sv_it c3 h
      refine sv_iconst hC (v := 0) dX6_write_30 (by decide) ?_
      refine sv_istore hC dX6_write_31 (by decide) (lvq := [(4, .int 0), (0, .ref ho), (1, .long x1), (3, .int x3)]) rfl ?_
      refine sv_loc [1, 2, 3, 0] (lvq := [(0, .ref ho), (1, .long x1), (3, .int x3), (4, .int 0)]) rfl ?_
      exact wk_md_write_33 ho a hC hQ sv_FU x1 x3 0 σ h
    · have h := sv_if c3 h
      refine sv_bipush hC (v := (-5)) dX6_write_27 (by decide) ?_
      exact sv_iret hC hQ dX6_write_29 (by have e := Option.some.inj h; subst e; exact ⟨rfl, rfl⟩)
  · have h := sv_it c2 h
    refine sv_bipush hC (v := (-3)) dX6_write_12 (by decide) ?_
    exact sv_iret hC hQ dX6_write_14 (by have e := Option.some.inj h; subst e; exact ⟨rfl, rfl⟩)
set_option maxHeartbeats 2000000 in
theorem met_md_write {l : Launch} {s0 : State} {D : va_G} {dA : Nat → ClassId} (hF : sv_F s0 D dA) (ho : Nat) (a : Nat → Nat) (x1 : Int64) (x3 : Int32) (σ : MSt) {r0 : Int32 × MSt} (h : md_write x1 x3 σ = some r0) : sv_M l s0 D yX6_write cX6_write 5 (some .int) rm_X6_write [.ref ho, .long x1, .int x3] (MW dA ho a σ) (sv_pI r0.1 (MW dA ho a r0.2)) :=
  sv_met hF (by decide) (Nat.le_of_ble_eq_true rfl) (fun Γ hC hQ hmn e1 e2 e3 e4 => by
    subst e1 e2 e3 e4
    exact wk_md_write ho a hC hQ x1 x3 σ h)
set_option maxHeartbeats 2000000 in
theorem wk_md_erase {Γ : sv_G} (ho : Nat) (a : Nat → Nat) (hC : sv_C Γ cX6_erase 2 RX6 (some .int) rm_X6_erase) {r0 : Int32 × MSt} (hQ : sv_RQ Γ (sv_pI r0.1 (MW (sg_dA Γ) ho a r0.2)) 0 0) (σ : MSt) (h : md_erase σ = some r0) : sv_V Γ (MW (sg_dA Γ) ho a σ) 0 0 0 [(0, .ref ho)] [] := by
  unfold md_erase at h
  refine sv_aload_n hC dX6_erase_0 0 rfl rfl ?_
  refine sv_get hC in_X6 0 rfl rfl 1 (by decide) q1057 rfl (v := .int (σ.1 1)) rfl dX6_erase_1 ?_
  refine sv_istore_n hC dX6_erase_4 rfl (by decide) (lvq := [(1, .int (σ.1 1)), (0, .ref ho)]) rfl ?_
  refine sv_aload_n hC dX6_erase_5 1 rfl rfl ?_
  refine sv_iconst hC (v := 0) dX6_erase_6 (by decide) ?_
  refine sv_put hC in_X6 tyX6 tyX6_ok nmX6 0 rfl rfl 1 (by decide) q1057 rfl rfl rfl rfl (Nat.le_of_ble_eq_true rfl) (Xq := MW (sg_dA Γ) ho a (ms_s σ 1 0)) rfl dX6_erase_7 ?_
  refine sv_iload_n hC dX6_erase_10 0 rfl rfl ?_
  exact sv_iret hC hQ dX6_erase_11 (by have e := Option.some.inj h; subst e; exact ⟨rfl, rfl⟩)
set_option maxHeartbeats 2000000 in
theorem met_md_erase {l : Launch} {s0 : State} {D : va_G} {dA : Nat → ClassId} (hF : sv_F s0 D dA) (ho : Nat) (a : Nat → Nat) (σ : MSt) {r0 : Int32 × MSt} (h : md_erase σ = some r0) : sv_M l s0 D yX6_erase cX6_erase 2 (some .int) rm_X6_erase [.ref ho] (MW dA ho a σ) (sv_pI r0.1 (MW dA ho a r0.2)) :=
  sv_met hF (by decide) (Nat.le_of_ble_eq_true rfl) (fun Γ hC hQ hmn e1 e2 e3 e4 => by
    subst e1 e2 e3 e4
    exact wk_md_erase ho a hC hQ σ h)
set_option maxHeartbeats 2000000 in
theorem wk_md_sort_16 {Γ : sv_G}  (hC : sv_C Γ cX6_sort 1 RX6 (some .int) rm_X6_sort) {r0 : Int32} (hQ : sv_RQ Γ (sv_pI r0 []) 0 0)  (x0 : Int32)  (h : md_sort_16 x0 = some r0) : sv_V Γ ([]) 0 0 16 [(0, .int x0)] [] := by
  unfold md_sort_16 at h
  refine sv_iload_n hC dX6_sort_16 0 rfl rfl ?_
  refine sv_bipush hC (v := 48) dX6_sort_17 (by decide) ?_
  refine sv_icmp_lt hC (tgt := 32) dX6_sort_19 (by decide) (fun c3 => ?_) (fun c3 => ?_)
  · have h := sv_it c3 h
    refine sv_iconst hC (v := 0) dX6_sort_32 (by decide) ?_
    exact sv_iret hC hQ dX6_sort_33 (by have e := Option.some.inj h; subst e; exact ⟨rfl, rfl⟩)
  · have h := sv_if c3 h
    refine sv_iload_n hC dX6_sort_22 0 rfl rfl ?_
    refine sv_bipush hC (v := 57) dX6_sort_23 (by decide) ?_
    refine sv_icmp_gt hC (tgt := 32) dX6_sort_25 (by decide) (fun c4 => ?_) (fun c4 => ?_)
    · have h := sv_it c4 h
      refine sv_iconst hC (v := 0) dX6_sort_32 (by decide) ?_
      exact sv_iret hC hQ dX6_sort_33 (by have e := Option.some.inj h; subst e; exact ⟨rfl, rfl⟩)
    · have h := sv_if c4 h
      refine sv_iconst hC (v := 2) dX6_sort_28 (by decide) ?_
      refine sv_goto hC (tgt := 33) dX6_sort_29 (by decide) ?_
      exact sv_iret hC hQ dX6_sort_33 (by have e := Option.some.inj h; subst e; exact ⟨rfl, rfl⟩)
set_option maxHeartbeats 2000000 in
theorem wk_md_sort {Γ : sv_G}  (hC : sv_C Γ cX6_sort 1 RX6 (some .int) rm_X6_sort) {r0 : Int32} (hQ : sv_RQ Γ (sv_pI r0 []) 0 0) (x0 : Int32) (h : md_sort x0 = some r0) : sv_V Γ ([]) 0 0 0 [(0, .int x0)] [] := by
  unfold md_sort at h
  refine sv_iload_n hC dX6_sort_0 0 rfl rfl ?_
  refine sv_bipush hC (v := 97) dX6_sort_1 (by decide) ?_
  refine sv_icmp_lt hC (tgt := 16) dX6_sort_3 (by decide) (fun c1 => ?_) (fun c1 => ?_)
  · have h := sv_it c1 h
    exact wk_md_sort_16 hC hQ x0 h
  · have h := sv_if c1 h
    refine sv_iload_n hC dX6_sort_6 0 rfl rfl ?_
    refine sv_bipush hC (v := 122) dX6_sort_7 (by decide) ?_
    refine sv_icmp_gt hC (tgt := 16) dX6_sort_9 (by decide) (fun c2 => ?_) (fun c2 => ?_)
    · have h := sv_it c2 h
      exact wk_md_sort_16 hC hQ x0 h
    · have h := sv_if c2 h
      refine sv_iconst hC (v := 1) dX6_sort_12 (by decide) ?_
      refine sv_goto hC (tgt := 33) dX6_sort_13 (by decide) ?_
      exact sv_iret hC hQ dX6_sort_33 (by have e := Option.some.inj h; subst e; exact ⟨rfl, rfl⟩)
set_option maxHeartbeats 2000000 in
theorem met_md_sort {l : Launch} {s0 : State} {D : va_G} {dA : Nat → ClassId} (hF : sv_F s0 D dA)  (x0 : Int32) {r0 : Int32} (h : md_sort x0 = some r0) : sv_M l s0 D yX6_sort cX6_sort 1 (some .int) rm_X6_sort [.int x0] ([]) (sv_pI r0 []) :=
  sv_met hF (by decide) (Nat.le_of_ble_eq_true rfl) (fun Γ hC hQ hmn e1 e2 e3 e4 => by
    subst e1 e2 e3 e4
    exact wk_md_sort hC hQ x0 h)
set_option maxHeartbeats 2000000 in
theorem wk_md_token_71b {Γ : sv_G} (ho : Nat) (a : Nat → Nat) (hC : sv_C Γ cX6_token 1 RX6 none rm_X6_token) {r0 : MSt} (hQ : sv_RQ Γ (sv_pV (MW (sg_dA Γ) ho a r0)) 0 0)  (rk_71 : MSt → Option MSt) (hk_71 : ∀ (σ : MSt), rk_71 σ = some r0 → sv_V Γ (MW (sg_dA Γ) ho a σ) 0 0 71 [(0, .ref ho)] []) (σ : MSt)  (h : md_token_71b rk_71 σ = some r0) : sv_V Γ (MW (sg_dA Γ) ho a σ) 0 0 71 [(0, .ref ho)] [] := by
  unfold md_token_71b at h
  refine sv_aload_n hC dX6_token_71 0 rfl rfl ?_
  refine sv_get hC in_X6 0 rfl rfl 21 (by decide) q1077 rfl (v := .int (σ.1 21)) rfl dX6_token_72 ?_
  refine sv_aload_n hC dX6_token_75 0 rfl rfl ?_
  refine sv_get hC in_X6 0 rfl rfl 1 (by decide) q1057 rfl (v := .int (σ.1 1)) rfl dX6_token_76 ?_
  refine sv_icmp_ge hC (tgt := 137) dX6_token_79 (by decide) (fun c5 => ?_) (fun c5 => ?_)
  · have h := sv_it c5 h
    refine sv_aload_n hC dX6_token_137 0 rfl rfl ?_
    refine sv_aload_n hC dX6_token_138 0 rfl rfl ?_
    refine sv_get hC in_X6 0 rfl rfl 21 (by decide) q1077 rfl (v := .int (σ.1 21)) rfl dX6_token_139 ?_
    refine sv_put hC in_X6 tyX6 tyX6_ok nmX6 0 rfl rfl 23 (by decide) q1079 rfl rfl rfl rfl (Nat.le_of_ble_eq_true rfl) (Xq := MW (sg_dA Γ) ho a (ms_s σ 23 (σ.1 21))) rfl dX6_token_142 ?_
    exact sv_vret hC hQ dX6_token_145 (by have e := Option.some.inj h; subst e; exact ⟨rfl, rfl⟩)
  · have h := sv_if c5 h
    refine sv_aload_n hC dX6_token_82 0 rfl rfl ?_
    refine sv_get hC in_X6 0 rfl rfl 0 (by decide) q1056 rfl (v := .ref (a 0)) rfl dX6_token_83 ?_
    refine sv_aload_n hC dX6_token_86 0 rfl rfl ?_
    refine sv_get hC in_X6 0 rfl rfl 22 (by decide) q1078 rfl (v := .int (σ.1 22)) rfl dX6_token_87 ?_
    obtain ⟨j6, ej6, h⟩ := sv_ob h
    refine sv_iald hC 1 (f := σ.2 0) rfl rfl (j := j6) ej6 dX6_token_90 ?_
    obtain ⟨r7, er7, h⟩ := sv_ob h
    refine sv_pSi (nn := 1) hC (met_md_sort hC.F (σ.2 0 j6) er7) (lw_S q1198 q1199 q62 q1200) (by decide +kernel) ⟨by decide, by decide⟩ ⟨rfl, rfl⟩ rfl rfl (Nat.le_of_ble_eq_true rfl) ⟨Nat.le_refl 0, Nat.le_refl 0⟩ dX6_token_91 ?_
    refine sv_if_le hC (tgt := 137) dX6_token_94 (by decide) (fun c8 => ?_) (fun c8 => ?_)
    · have h := sv_it c8 h
      refine sv_aload_n hC dX6_token_137 0 rfl rfl ?_
      refine sv_aload_n hC dX6_token_138 0 rfl rfl ?_
      refine sv_get hC in_X6 0 rfl rfl 21 (by decide) q1077 rfl (v := .int (σ.1 21)) rfl dX6_token_139 ?_
      refine sv_put hC in_X6 tyX6 tyX6_ok nmX6 0 rfl rfl 23 (by decide) q1079 rfl rfl rfl rfl (Nat.le_of_ble_eq_true rfl) (Xq := MW (sg_dA Γ) ho a (ms_s σ 23 (σ.1 21))) rfl dX6_token_142 ?_
      exact sv_vret hC hQ dX6_token_145 (by have e := Option.some.inj h; subst e; exact ⟨rfl, rfl⟩)
    · have h := sv_if c8 h
      refine sv_aload_n hC dX6_token_97 0 rfl rfl ?_
      refine sv_get hC in_X6 0 rfl rfl 0 (by decide) q1056 rfl (v := .ref (a 0)) rfl dX6_token_98 ?_
      refine sv_aload_n hC dX6_token_101 0 rfl rfl ?_
      refine sv_get hC in_X6 0 rfl rfl 21 (by decide) q1077 rfl (v := .int (σ.1 21)) rfl dX6_token_102 ?_
      obtain ⟨j9, ej9, h⟩ := sv_ob h
      refine sv_iald hC 1 (f := σ.2 0) rfl rfl (j := j9) ej9 dX6_token_105 ?_
      obtain ⟨r10, er10, h⟩ := sv_ob h
      refine sv_pSi (nn := 1) hC (met_md_sort hC.F (σ.2 0 j9) er10) (lw_S q1198 q1199 q62 q1200) (by decide +kernel) ⟨by decide, by decide⟩ ⟨rfl, rfl⟩ rfl rfl (Nat.le_of_ble_eq_true rfl) ⟨Nat.le_refl 0, Nat.le_refl 0⟩ dX6_token_106 ?_
      refine sv_aload_n hC dX6_token_109 0 rfl rfl ?_
      refine sv_get hC in_X6 0 rfl rfl 0 (by decide) q1056 rfl (v := .ref (a 0)) rfl dX6_token_110 ?_
      refine sv_aload_n hC dX6_token_113 0 rfl rfl ?_
      refine sv_get hC in_X6 0 rfl rfl 22 (by decide) q1078 rfl (v := .int (σ.1 22)) rfl dX6_token_114 ?_
      obtain ⟨j11, ej11, h⟩ := sv_ob h
      refine sv_iald hC 1 (f := σ.2 0) rfl rfl (j := j11) ej11 dX6_token_117 ?_
      obtain ⟨r12, er12, h⟩ := sv_ob h
      refine sv_pSi (nn := 1) hC (met_md_sort hC.F (σ.2 0 j11) er12) (lw_S q1198 q1199 q62 q1200) (by decide +kernel) ⟨by decide, by decide⟩ ⟨rfl, rfl⟩ rfl rfl (Nat.le_of_ble_eq_true rfl) ⟨Nat.le_refl 0, Nat.le_refl 0⟩ dX6_token_118 ?_
      refine sv_icmp_ne hC (tgt := 137) dX6_token_121 (by decide) (fun c13 => ?_) (fun c13 => ?_)
      · have h := sv_if c13 h
        refine sv_aload_n hC dX6_token_137 0 rfl rfl ?_
        refine sv_aload_n hC dX6_token_138 0 rfl rfl ?_
        refine sv_get hC in_X6 0 rfl rfl 21 (by decide) q1077 rfl (v := .int (σ.1 21)) rfl dX6_token_139 ?_
        refine sv_put hC in_X6 tyX6 tyX6_ok nmX6 0 rfl rfl 23 (by decide) q1079 rfl rfl rfl rfl (Nat.le_of_ble_eq_true rfl) (Xq := MW (sg_dA Γ) ho a (ms_s σ 23 (σ.1 21))) rfl dX6_token_142 ?_
        exact sv_vret hC hQ dX6_token_145 (by have e := Option.some.inj h; subst e; exact ⟨rfl, rfl⟩)
      · have h := sv_it c13 h
        refine sv_aload_n hC dX6_token_124 0 rfl rfl ?_
        refine sv_dup hC dX6_token_125 rfl ?_
        refine sv_get hC in_X6 0 rfl rfl 21 (by decide) q1077 rfl (v := .int (σ.1 21)) rfl dX6_token_126 ?_
        refine sv_iconst hC (v := 1) dX6_token_129 (by decide) ?_
        refine sv_iadd hC dX6_token_130 ?_
        refine sv_put hC in_X6 tyX6 tyX6_ok nmX6 0 rfl rfl 21 (by decide) q1077 rfl rfl rfl rfl (Nat.le_of_ble_eq_true rfl) (Xq := MW (sg_dA Γ) ho a (ms_s σ 21 ((σ.1 21) + 1))) rfl dX6_token_131 ?_
        refine sv_goto hC (tgt := 71) dX6_token_134 (by decide) ?_
        exact hk_71 (ms_s σ 21 ((σ.1 21) + 1)) h
set_option maxHeartbeats 2000000 in
theorem wk_md_token_71 {Γ : sv_G} (ho : Nat) (a : Nat → Nat) (hC : sv_C Γ cX6_token 1 RX6 none rm_X6_token) {r0 : MSt} (hQ : sv_RQ Γ (sv_pV (MW (sg_dA Γ) ho a r0)) 0 0)  : ∀ (n : Nat) (σ : MSt)  (h : md_token_71 n σ = some r0), sv_V Γ (MW (sg_dA Γ) ho a σ) 0 0 71 [(0, .ref ho)] [] := by
  intro n
  induction n with
  | zero => intro σ h; cases h
  | succ n ih => intro σ h; exact wk_md_token_71b ho a hC hQ (md_token_71 n) ih σ h
set_option maxHeartbeats 2000000 in
theorem wk_md_token_38 {Γ : sv_G} (ho : Nat) (a : Nat → Nat) (hC : sv_C Γ cX6_token 1 RX6 none rm_X6_token) {r0 : MSt} (hQ : sv_RQ Γ (sv_pV (MW (sg_dA Γ) ho a r0)) 0 0)  (σ : MSt)  (h : md_token_38 σ = some r0) : sv_V Γ (MW (sg_dA Γ) ho a σ) 0 0 38 [(0, .ref ho)] [] := by
  unfold md_token_38 at h
  refine sv_aload_n hC dX6_token_38 0 rfl rfl ?_
  refine sv_aload_n hC dX6_token_39 0 rfl rfl ?_
  refine sv_get hC in_X6 0 rfl rfl 21 (by decide) q1077 rfl (v := .int (σ.1 21)) rfl dX6_token_40 ?_
  refine sv_put hC in_X6 tyX6 tyX6_ok nmX6 0 rfl rfl 22 (by decide) q1078 rfl rfl rfl rfl (Nat.le_of_ble_eq_true rfl) (Xq := MW (sg_dA Γ) ho a (ms_s σ 22 (σ.1 21))) rfl dX6_token_43 ?_
  refine sv_aload_n hC dX6_token_46 0 rfl rfl ?_
  refine sv_dup hC dX6_token_47 rfl ?_
  refine sv_get hC in_X6 0 rfl rfl 21 (by decide) q1077 rfl (v := .int (σ.1 21)) rfl dX6_token_48 ?_
  refine sv_aload_n hC dX6_token_51 0 rfl rfl ?_
  refine sv_get hC in_X6 0 rfl rfl 21 (by decide) q1077 rfl (v := .int (σ.1 21)) rfl dX6_token_52 ?_
  refine sv_aload_n hC dX6_token_55 0 rfl rfl ?_
  refine sv_get hC in_X6 0 rfl rfl 1 (by decide) q1057 rfl (v := .int (σ.1 1)) rfl dX6_token_56 ?_
  refine sv_icmp_ge hC (tgt := 66) dX6_token_59 (by decide) (fun c4 => ?_) (fun c4 => ?_)
  · have h := sv_it c4 h
    refine sv_iconst hC (v := 0) dX6_token_66 (by decide) ?_
    refine sv_iadd hC dX6_token_67 ?_
    refine sv_put hC in_X6 tyX6 tyX6_ok nmX6 0 rfl rfl 21 (by decide) q1077 rfl rfl rfl rfl (Nat.le_of_ble_eq_true rfl) (Xq := MW (sg_dA Γ) ho a (ms_s (ms_s σ 22 (σ.1 21)) 21 ((σ.1 21) + 0))) rfl dX6_token_68 ?_
    exact wk_md_token_71 ho a hC hQ sv_FU (ms_s (ms_s σ 22 (σ.1 21)) 21 ((σ.1 21) + 0)) h
  · have h := sv_if c4 h
    refine sv_iconst hC (v := 1) dX6_token_62 (by decide) ?_
    refine sv_goto hC (tgt := 67) dX6_token_63 (by decide) ?_
    refine sv_iadd hC dX6_token_67 ?_
    refine sv_put hC in_X6 tyX6 tyX6_ok nmX6 0 rfl rfl 21 (by decide) q1077 rfl rfl rfl rfl (Nat.le_of_ble_eq_true rfl) (Xq := MW (sg_dA Γ) ho a (ms_s (ms_s σ 22 (σ.1 21)) 21 ((σ.1 21) + 1))) rfl dX6_token_68 ?_
    exact wk_md_token_71 ho a hC hQ sv_FU (ms_s (ms_s σ 22 (σ.1 21)) 21 ((σ.1 21) + 1)) h
set_option maxHeartbeats 2000000 in
theorem wk_md_token_0b {Γ : sv_G} (ho : Nat) (a : Nat → Nat) (hC : sv_C Γ cX6_token 1 RX6 none rm_X6_token) {r0 : MSt} (hQ : sv_RQ Γ (sv_pV (MW (sg_dA Γ) ho a r0)) 0 0)  (rk_0 : MSt → Option MSt) (hk_0 : ∀ (σ : MSt), rk_0 σ = some r0 → sv_V Γ (MW (sg_dA Γ) ho a σ) 0 0 0 [(0, .ref ho)] []) (σ : MSt)  (h : md_token_0b rk_0 σ = some r0) : sv_V Γ (MW (sg_dA Γ) ho a σ) 0 0 0 [(0, .ref ho)] [] := by
  unfold md_token_0b at h
  refine sv_aload_n hC dX6_token_0 0 rfl rfl ?_
  refine sv_get hC in_X6 0 rfl rfl 21 (by decide) q1077 rfl (v := .int (σ.1 21)) rfl dX6_token_1 ?_
  refine sv_aload_n hC dX6_token_4 0 rfl rfl ?_
  refine sv_get hC in_X6 0 rfl rfl 1 (by decide) q1057 rfl (v := .int (σ.1 1)) rfl dX6_token_5 ?_
  refine sv_icmp_ge hC (tgt := 38) dX6_token_8 (by decide) (fun c1 => ?_) (fun c1 => ?_)
  · have h := sv_it c1 h
    exact wk_md_token_38 ho a hC hQ σ h
  · have h := sv_if c1 h
    refine sv_aload_n hC dX6_token_11 0 rfl rfl ?_
    refine sv_get hC in_X6 0 rfl rfl 0 (by decide) q1056 rfl (v := .ref (a 0)) rfl dX6_token_12 ?_
    refine sv_aload_n hC dX6_token_15 0 rfl rfl ?_
    refine sv_get hC in_X6 0 rfl rfl 21 (by decide) q1077 rfl (v := .int (σ.1 21)) rfl dX6_token_16 ?_
    obtain ⟨j2, ej2, h⟩ := sv_ob h
    refine sv_iald hC 1 (f := σ.2 0) rfl rfl (j := j2) ej2 dX6_token_19 ?_
    refine sv_bipush hC (v := 32) dX6_token_20 (by decide) ?_
    refine sv_icmp_ne hC (tgt := 38) dX6_token_22 (by decide) (fun c3 => ?_) (fun c3 => ?_)
    · have h := sv_if c3 h
      exact wk_md_token_38 ho a hC hQ σ h
    · have h := sv_it c3 h
      refine sv_aload_n hC dX6_token_25 0 rfl rfl ?_
      refine sv_dup hC dX6_token_26 rfl ?_
      refine sv_get hC in_X6 0 rfl rfl 21 (by decide) q1077 rfl (v := .int (σ.1 21)) rfl dX6_token_27 ?_
      refine sv_iconst hC (v := 1) dX6_token_30 (by decide) ?_
      refine sv_iadd hC dX6_token_31 ?_
      refine sv_put hC in_X6 tyX6 tyX6_ok nmX6 0 rfl rfl 21 (by decide) q1077 rfl rfl rfl rfl (Nat.le_of_ble_eq_true rfl) (Xq := MW (sg_dA Γ) ho a (ms_s σ 21 ((σ.1 21) + 1))) rfl dX6_token_32 ?_
      refine sv_goto hC (tgt := 0) dX6_token_35 (by decide) ?_
      exact hk_0 (ms_s σ 21 ((σ.1 21) + 1)) h
set_option maxHeartbeats 2000000 in
theorem wk_md_token_0 {Γ : sv_G} (ho : Nat) (a : Nat → Nat) (hC : sv_C Γ cX6_token 1 RX6 none rm_X6_token) {r0 : MSt} (hQ : sv_RQ Γ (sv_pV (MW (sg_dA Γ) ho a r0)) 0 0)  : ∀ (n : Nat) (σ : MSt)  (h : md_token_0 n σ = some r0), sv_V Γ (MW (sg_dA Γ) ho a σ) 0 0 0 [(0, .ref ho)] [] := by
  intro n
  induction n with
  | zero => intro σ h; cases h
  | succ n ih => intro σ h; exact wk_md_token_0b ho a hC hQ (md_token_0 n) ih σ h
set_option maxHeartbeats 2000000 in
theorem wk_md_token {Γ : sv_G} (ho : Nat) (a : Nat → Nat) (hC : sv_C Γ cX6_token 1 RX6 none rm_X6_token) {r0 : MSt} (hQ : sv_RQ Γ (sv_pV (MW (sg_dA Γ) ho a r0)) 0 0) (σ : MSt) (h : md_token σ = some r0) : sv_V Γ (MW (sg_dA Γ) ho a σ) 0 0 0 [(0, .ref ho)] [] := by
  unfold md_token at h
  exact wk_md_token_0 ho a hC hQ sv_FU σ h
set_option maxHeartbeats 2000000 in
theorem met_md_token {l : Launch} {s0 : State} {D : va_G} {dA : Nat → ClassId} (hF : sv_F s0 D dA) (ho : Nat) (a : Nat → Nat) (σ : MSt) {r0 : MSt} (h : md_token σ = some r0) : sv_M l s0 D yX6_token cX6_token 1 none rm_X6_token [.ref ho] (MW dA ho a σ) (sv_pV (MW dA ho a r0)) :=
  sv_met hF (by decide) (Nat.le_of_ble_eq_true rfl) (fun Γ hC hQ hmn e1 e2 e3 e4 => by
    subst e1 e2 e3 e4
    exact wk_md_token ho a hC hQ σ h)
set_option maxHeartbeats 2000000 in
theorem wk_md_isWord_22b {Γ : sv_G} (ho : Nat) (a : Nat → Nat) (σ : MSt) (hC : sv_C Γ cX6_isWord 5 RX6 (some .boolean) rm_X6_isWord) {r0 : Int32} (hQ : sv_RQ Γ (sv_pI r0 (MW (sg_dA Γ) ho a σ)) 0 0)  (rk_22 : Int32 → Int32 → Int32 → Int32 → Option Int32) (hk_22 : ∀ (x1 : Int32) (x2 : Int32) (x3 : Int32) (x4 : Int32), rk_22 x1 x2 x3 x4 = some r0 → sv_V Γ (MW (sg_dA Γ) ho a σ) 0 0 22 [(0, .ref ho), (1, .int x1), (2, .int x2), (3, .int x3), (4, .int x4)] []) (x1 : Int32) (x2 : Int32) (x3 : Int32) (x4 : Int32)  (h : md_isWord_22b σ rk_22 x1 x2 x3 x4 = some r0) : sv_V Γ (MW (sg_dA Γ) ho a σ) 0 0 22 [(0, .ref ho), (1, .int x1), (2, .int x2), (3, .int x3), (4, .int x4)] [] := by
  unfold md_isWord_22b at h
  refine sv_iload_n hC dX6_isWord_22 3 rfl rfl ?_
  refine sv_if_eq hC (tgt := 71) dX6_isWord_23 (by decide) (fun c2 => ?_) (fun c2 => ?_)
  · have h := sv_it c2 h
    refine sv_iload_n hC dX6_isWord_71 3 rfl rfl ?_
    obtain ⟨b3, eb3, h⟩ := sv_ob h
    obtain ⟨e1, e2⟩ := sv_zb_n eb3
    subst e1
    exact sv_zret hC hQ dX6_isWord_72 e2 (by have e := Option.some.inj h; subst e; exact ⟨rfl, rfl⟩)
  · have h := sv_if c2 h
    refine sv_iload hC dX6_isWord_26 4 rfl ?_
    refine sv_iload_n hC dX6_isWord_28 2 rfl rfl ?_
    refine sv_icmp_ge hC (tgt := 71) dX6_isWord_29 (by decide) (fun c4 => ?_) (fun c4 => ?_)
    · have h := sv_it c4 h
      refine sv_iload_n hC dX6_isWord_71 3 rfl rfl ?_
      obtain ⟨b5, eb5, h⟩ := sv_ob h
      obtain ⟨e1, e2⟩ := sv_zb_n eb5
      subst e1
      exact sv_zret hC hQ dX6_isWord_72 e2 (by have e := Option.some.inj h; subst e; exact ⟨rfl, rfl⟩)
    · have h := sv_if c4 h
      refine sv_aload_n hC dX6_isWord_32 0 rfl rfl ?_
      refine sv_get hC in_X6 0 rfl rfl 0 (by decide) q1056 rfl (v := .ref (a 0)) rfl dX6_isWord_33 ?_
      refine sv_aload_n hC dX6_isWord_36 0 rfl rfl ?_
      refine sv_get hC in_X6 0 rfl rfl 22 (by decide) q1078 rfl (v := .int (σ.1 22)) rfl dX6_isWord_37 ?_
      refine sv_iload hC dX6_isWord_40 4 rfl ?_
      refine sv_iadd hC dX6_isWord_42 ?_
      obtain ⟨j6, ej6, h⟩ := sv_ob h
      refine sv_iald hC 1 (f := σ.2 0) rfl rfl (j := j6) ej6 dX6_isWord_43 ?_
      refine sv_bipush hC (v := 96) dX6_isWord_44 (by decide) ?_
      refine sv_iload_n hC dX6_isWord_46 1 rfl rfl ?_
      refine sv_iconst hC (v := 5) dX6_isWord_47 (by decide) ?_
      refine sv_iload hC dX6_isWord_48 4 rfl ?_
      refine sv_imul hC dX6_isWord_50 ?_
      refine sv_ishr hC dX6_isWord_51 ?_
      refine sv_bipush hC (v := 31) dX6_isWord_52 (by decide) ?_
      refine sv_iand hC dX6_isWord_54 ?_
      refine sv_iadd hC dX6_isWord_55 ?_
      refine sv_icmp_ne hC (tgt := 63) dX6_isWord_56 (by decide) (fun c7 => ?_) (fun c7 => ?_)
      · have h := sv_if c7 h
        refine sv_iconst hC (v := 0) dX6_isWord_63 (by decide) ?_
        refine sv_istore_n hC dX6_isWord_64 rfl (by decide) (lvq := [(3, .int 0), (0, .ref ho), (1, .int x1), (2, .int x2), (4, .int x4)]) rfl ?_
        refine sv_iinc hC (v := x4 + 1) dX6_isWord_65 4 rfl rfl (by decide) (lvq := [(4, .int (x4 + 1)), (3, .int 0), (0, .ref ho), (1, .int x1), (2, .int x2)]) rfl ?_
        refine sv_goto hC (tgt := 22) dX6_isWord_68 (by decide) ?_
        refine sv_loc [2, 3, 4, 1, 0] (lvq := [(0, .ref ho), (1, .int x1), (2, .int x2), (3, .int 0), (4, .int (x4 + 1))]) rfl ?_
        exact hk_22 x1 x2 0 (x4 + 1) h
      · have h := sv_it c7 h
        refine sv_iconst hC (v := 1) dX6_isWord_59 (by decide) ?_
        refine sv_goto hC (tgt := 64) dX6_isWord_60 (by decide) ?_
        refine sv_istore_n hC dX6_isWord_64 rfl (by decide) (lvq := [(3, .int 1), (0, .ref ho), (1, .int x1), (2, .int x2), (4, .int x4)]) rfl ?_
        refine sv_iinc hC (v := x4 + 1) dX6_isWord_65 4 rfl rfl (by decide) (lvq := [(4, .int (x4 + 1)), (3, .int 1), (0, .ref ho), (1, .int x1), (2, .int x2)]) rfl ?_
        refine sv_goto hC (tgt := 22) dX6_isWord_68 (by decide) ?_
        refine sv_loc [2, 3, 4, 1, 0] (lvq := [(0, .ref ho), (1, .int x1), (2, .int x2), (3, .int 1), (4, .int (x4 + 1))]) rfl ?_
        exact hk_22 x1 x2 1 (x4 + 1) h
set_option maxHeartbeats 2000000 in
theorem wk_md_isWord_22 {Γ : sv_G} (ho : Nat) (a : Nat → Nat) (σ : MSt) (hC : sv_C Γ cX6_isWord 5 RX6 (some .boolean) rm_X6_isWord) {r0 : Int32} (hQ : sv_RQ Γ (sv_pI r0 (MW (sg_dA Γ) ho a σ)) 0 0)  : ∀ (n : Nat) (x1 : Int32) (x2 : Int32) (x3 : Int32) (x4 : Int32)  (h : md_isWord_22 σ n x1 x2 x3 x4 = some r0), sv_V Γ (MW (sg_dA Γ) ho a σ) 0 0 22 [(0, .ref ho), (1, .int x1), (2, .int x2), (3, .int x3), (4, .int x4)] [] := by
  intro n
  induction n with
  | zero => intro x1 x2 x3 x4 h; cases h
  | succ n ih => intro x1 x2 x3 x4 h; exact wk_md_isWord_22b ho a σ hC hQ (md_isWord_22 σ n) ih x1 x2 x3 x4 h
set_option maxHeartbeats 2000000 in
theorem wk_md_isWord {Γ : sv_G} (ho : Nat) (a : Nat → Nat) (σ : MSt) (hC : sv_C Γ cX6_isWord 5 RX6 (some .boolean) rm_X6_isWord) {r0 : Int32} (hQ : sv_RQ Γ (sv_pI r0 (MW (sg_dA Γ) ho a σ)) 0 0) (x1 : Int32) (x2 : Int32) (h : md_isWord σ x1 x2 = some r0) : sv_V Γ (MW (sg_dA Γ) ho a σ) 0 0 0 [(0, .ref ho), (1, .int x1), (2, .int x2)] [] := by
  unfold md_isWord at h
  refine sv_aload_n hC dX6_isWord_0 0 rfl rfl ?_
  refine sv_get hC in_X6 0 rfl rfl 23 (by decide) q1079 rfl (v := .int (σ.1 23)) rfl dX6_isWord_1 ?_
  refine sv_aload_n hC dX6_isWord_4 0 rfl rfl ?_
  refine sv_get hC in_X6 0 rfl rfl 22 (by decide) q1078 rfl (v := .int (σ.1 22)) rfl dX6_isWord_5 ?_
  refine sv_isub hC dX6_isWord_8 ?_
  refine sv_iload_n hC dX6_isWord_9 2 rfl rfl ?_
  refine sv_icmp_ne hC (tgt := 17) dX6_isWord_10 (by decide) (fun c1 => ?_) (fun c1 => ?_)
  · have h := sv_if c1 h
    refine sv_iconst hC (v := 0) dX6_isWord_17 (by decide) ?_
    refine sv_istore_n hC dX6_isWord_18 rfl (by decide) (lvq := [(3, .int 0), (0, .ref ho), (1, .int x1), (2, .int x2)]) rfl ?_
    refine sv_iconst hC (v := 0) dX6_isWord_19 (by decide) ?_
    refine sv_istore hC dX6_isWord_20 (by decide) (lvq := [(4, .int 0), (3, .int 0), (0, .ref ho), (1, .int x1), (2, .int x2)]) rfl ?_
    refine sv_loc [2, 3, 4, 1, 0] (lvq := [(0, .ref ho), (1, .int x1), (2, .int x2), (3, .int 0), (4, .int 0)]) rfl ?_
    exact wk_md_isWord_22 ho a σ hC hQ sv_FU x1 x2 0 0 h
  · have h := sv_it c1 h
    refine sv_iconst hC (v := 1) dX6_isWord_13 (by decide) ?_
    refine sv_goto hC (tgt := 18) dX6_isWord_14 (by decide) ?_
    refine sv_istore_n hC dX6_isWord_18 rfl (by decide) (lvq := [(3, .int 1), (0, .ref ho), (1, .int x1), (2, .int x2)]) rfl ?_
    refine sv_iconst hC (v := 0) dX6_isWord_19 (by decide) ?_
    refine sv_istore hC dX6_isWord_20 (by decide) (lvq := [(4, .int 0), (3, .int 1), (0, .ref ho), (1, .int x1), (2, .int x2)]) rfl ?_
    refine sv_loc [2, 3, 4, 1, 0] (lvq := [(0, .ref ho), (1, .int x1), (2, .int x2), (3, .int 1), (4, .int 0)]) rfl ?_
    exact wk_md_isWord_22 ho a σ hC hQ sv_FU x1 x2 1 0 h
set_option maxHeartbeats 2000000 in
theorem met_md_isWord {l : Launch} {s0 : State} {D : va_G} {dA : Nat → ClassId} (hF : sv_F s0 D dA) (ho : Nat) (a : Nat → Nat) (σ : MSt) (x1 : Int32) (x2 : Int32) {r0 : Int32} (h : md_isWord σ x1 x2 = some r0) : sv_M l s0 D yX6_isWord cX6_isWord 5 (some .boolean) rm_X6_isWord [.ref ho, .int x1, .int x2] (MW dA ho a σ) (sv_pI r0 (MW dA ho a σ)) :=
  sv_met hF (by decide) (Nat.le_of_ble_eq_true rfl) (fun Γ hC hQ hmn e1 e2 e3 e4 => by
    subst e1 e2 e3 e4
    exact wk_md_isWord ho a σ hC hQ x1 x2 h)
set_option maxHeartbeats 2000000 in
theorem wk_md_reads_51b {Γ : sv_G} (ho : Nat) (a : Nat → Nat) (hC : sv_C Γ cX6_reads 6 RX6 (some .boolean) rm_X6_reads) {r0 : Int32 × MSt} (hQ : sv_RQ Γ (sv_pI r0.1 (MW (sg_dA Γ) ho a r0.2)) 0 0)  (rk_51 : Int32 → Int32 → Int32 → Int32 → Int32 → MSt → Option (Int32 × MSt)) (hk_51 : ∀ (x1 : Int32) (x2 : Int32) (x3 : Int32) (x4 : Int32) (x5 : Int32) (σ : MSt), rk_51 x1 x2 x3 x4 x5 σ = some r0 → sv_V Γ (MW (sg_dA Γ) ho a σ) 0 0 51 [(0, .ref ho), (1, .int x1), (2, .int x2), (3, .int x3), (4, .int x4), (5, .int x5)] []) (x1 : Int32) (x2 : Int32) (x3 : Int32) (x4 : Int32) (x5 : Int32) (σ : MSt)  (h : md_reads_51b rk_51 x1 x2 x3 x4 x5 σ = some r0) : sv_V Γ (MW (sg_dA Γ) ho a σ) 0 0 51 [(0, .ref ho), (1, .int x1), (2, .int x2), (3, .int x3), (4, .int x4), (5, .int x5)] [] := by
  unfold md_reads_51b at h
  refine sv_iload hC dX6_reads_51 5 rfl ?_
  refine sv_aload_n hC dX6_reads_53 0 rfl rfl ?_
  refine sv_get hC in_X6 0 rfl rfl 23 (by decide) q1079 rfl (v := .int (σ.1 23)) rfl dX6_reads_54 ?_
  refine sv_icmp_ge hC (tgt := 84) dX6_reads_57 (by decide) (fun c6 => ?_) (fun c6 => ?_)
  · have h := sv_it c6 h
    refine sv_iload hC dX6_reads_84 4 rfl ?_
    refine sv_i2l hC dX6_reads_86 ?_
    refine sv_iload_n hC dX6_reads_87 2 rfl rfl ?_
    refine sv_i2l hC dX6_reads_88 ?_
    refine sv_iload_n hC dX6_reads_89 3 rfl rfl ?_
    refine sv_i2l hC dX6_reads_90 ?_
    obtain ⟨r7, er7, h⟩ := sv_ob h
    refine sv_pSi (nn := 3) hC (met_md_in hC.F x4.toInt64 x2.toInt64 x3.toInt64 er7) (lw_S q1182 q1183 q62 q1184) (by decide +kernel) ⟨by decide, by decide⟩ ⟨rfl, rfl⟩ rfl rfl (Nat.le_of_ble_eq_true rfl) ⟨Nat.le_refl 0, Nat.le_refl 0⟩ dX6_reads_91 ?_
    refine sv_if_ne hC (tgt := 99) dX6_reads_94 (by decide) (fun c8 => ?_) (fun c8 => ?_)
    · have h := sv_if c8 h
      refine sv_aload_n hC dX6_reads_99 0 rfl rfl ?_
      refine sv_get hC in_X6 0 rfl rfl 2 (by decide) q1058 rfl (v := .ref (a 2)) rfl dX6_reads_100 ?_
      refine sv_iconst hC (v := 5) dX6_reads_103 (by decide) ?_
      refine sv_aload_n hC dX6_reads_104 0 rfl rfl ?_
      refine sv_get hC in_X6 0 rfl rfl 3 (by decide) q1059 rfl (v := .int (σ.1 3)) rfl dX6_reads_105 ?_
      refine sv_imul hC dX6_reads_108 ?_
      refine sv_iconst hC (v := 1) dX6_reads_109 (by decide) ?_
      refine sv_iadd hC dX6_reads_110 ?_
      refine sv_iload_n hC dX6_reads_111 1 rfl rfl ?_
      refine sv_iadd hC dX6_reads_112 ?_
      refine sv_iload hC dX6_reads_113 4 rfl ?_
      obtain ⟨j9, ej9, h⟩ := sv_ob h
      refine sv_iast hC 2 (f := σ.2 2) rfl rfl (j := j9) ej9 (Xq := MW (sg_dA Γ) ho a (ms_a σ 2 j9 x4)) rfl dX6_reads_115 ?_
      refine sv_aload_n hC dX6_reads_116 0 rfl rfl ?_
      obtain ⟨s10, es10, h⟩ := sv_ob h
      refine sv_wVv (nn := 0) hC (met_md_token hC.F ho a (ms_a σ 2 j9 x4) es10) 0 0 rfl rfl rfl (lw_V q1194 q1196 qs24 q62 q1197) (by decide +kernel) ⟨by decide, by decide⟩ ⟨rfl, rfl⟩ rfl rfl (Nat.le_of_ble_eq_true rfl) ⟨Nat.le_refl 0, Nat.le_refl 0⟩ dX6_reads_117 ?_
      refine sv_iconst hC (v := 1) dX6_reads_120 (by decide) ?_
      exact sv_zret hC hQ dX6_reads_121 rfl (by have e := Option.some.inj h; subst e; exact ⟨rfl, rfl⟩)
    · have h := sv_it c8 h
      refine sv_iconst hC (v := 0) dX6_reads_97 (by decide) ?_
      exact sv_zret hC hQ dX6_reads_98 rfl (by have e := Option.some.inj h; subst e; exact ⟨rfl, rfl⟩)
  · have h := sv_if c6 h
    refine sv_bipush hC (v := 10) dX6_reads_60 (by decide) ?_
    refine sv_iload hC dX6_reads_62 4 rfl ?_
    refine sv_imul hC dX6_reads_64 ?_
    refine sv_aload_n hC dX6_reads_65 0 rfl rfl ?_
    refine sv_get hC in_X6 0 rfl rfl 0 (by decide) q1056 rfl (v := .ref (a 0)) rfl dX6_reads_66 ?_
    refine sv_iload hC dX6_reads_69 5 rfl ?_
    obtain ⟨j11, ej11, h⟩ := sv_ob h
    refine sv_iald hC 1 (f := σ.2 0) rfl rfl (j := j11) ej11 dX6_reads_71 ?_
    refine sv_iadd hC dX6_reads_72 ?_
    refine sv_bipush hC (v := 48) dX6_reads_73 (by decide) ?_
    refine sv_isub hC dX6_reads_75 ?_
    refine sv_istore hC dX6_reads_76 (by decide) (lvq := [(4, .int (((10 * x4) + (σ.2 0 j11)) - 48)), (0, .ref ho), (1, .int x1), (2, .int x2), (3, .int x3), (5, .int x5)]) rfl ?_
    refine sv_iinc hC (v := x5 + 1) dX6_reads_78 5 rfl rfl (by decide) (lvq := [(5, .int (x5 + 1)), (4, .int (((10 * x4) + (σ.2 0 j11)) - 48)), (0, .ref ho), (1, .int x1), (2, .int x2), (3, .int x3)]) rfl ?_
    refine sv_goto hC (tgt := 51) dX6_reads_81 (by decide) ?_
    refine sv_loc [2, 3, 4, 5, 1, 0] (lvq := [(0, .ref ho), (1, .int x1), (2, .int x2), (3, .int x3), (4, .int (((10 * x4) + (σ.2 0 j11)) - 48)), (5, .int (x5 + 1))]) rfl ?_
    exact hk_51 x1 x2 x3 (((10 * x4) + (σ.2 0 j11)) - 48) (x5 + 1) σ h
set_option maxHeartbeats 2000000 in
theorem wk_md_reads_51 {Γ : sv_G} (ho : Nat) (a : Nat → Nat) (hC : sv_C Γ cX6_reads 6 RX6 (some .boolean) rm_X6_reads) {r0 : Int32 × MSt} (hQ : sv_RQ Γ (sv_pI r0.1 (MW (sg_dA Γ) ho a r0.2)) 0 0)  : ∀ (n : Nat) (x1 : Int32) (x2 : Int32) (x3 : Int32) (x4 : Int32) (x5 : Int32) (σ : MSt)  (h : md_reads_51 n x1 x2 x3 x4 x5 σ = some r0), sv_V Γ (MW (sg_dA Γ) ho a σ) 0 0 51 [(0, .ref ho), (1, .int x1), (2, .int x2), (3, .int x3), (4, .int x4), (5, .int x5)] [] := by
  intro n
  induction n with
  | zero => intro x1 x2 x3 x4 x5 σ h; cases h
  | succ n ih => intro x1 x2 x3 x4 x5 σ h; exact wk_md_reads_51b ho a hC hQ (md_reads_51 n) ih x1 x2 x3 x4 x5 σ h
set_option maxHeartbeats 2000000 in
theorem wk_md_reads {Γ : sv_G} (ho : Nat) (a : Nat → Nat) (hC : sv_C Γ cX6_reads 6 RX6 (some .boolean) rm_X6_reads) {r0 : Int32 × MSt} (hQ : sv_RQ Γ (sv_pI r0.1 (MW (sg_dA Γ) ho a r0.2)) 0 0) (x1 : Int32) (x2 : Int32) (x3 : Int32) (σ : MSt) (h : md_reads x1 x2 x3 σ = some r0) : sv_V Γ (MW (sg_dA Γ) ho a σ) 0 0 0 [(0, .ref ho), (1, .int x1), (2, .int x2), (3, .int x3)] [] := by
  unfold md_reads at h
  refine sv_aload_n hC dX6_reads_0 0 rfl rfl ?_
  refine sv_get hC in_X6 0 rfl rfl 22 (by decide) q1078 rfl (v := .int (σ.1 22)) rfl dX6_reads_1 ?_
  refine sv_aload_n hC dX6_reads_4 0 rfl rfl ?_
  refine sv_get hC in_X6 0 rfl rfl 1 (by decide) q1057 rfl (v := .int (σ.1 1)) rfl dX6_reads_5 ?_
  refine sv_icmp_eq hC (tgt := 40) dX6_reads_8 (by decide) (fun c1 => ?_) (fun c1 => ?_)
  · have h := sv_it c1 h
    refine sv_iconst hC (v := 0) dX6_reads_40 (by decide) ?_
    exact sv_zret hC hQ dX6_reads_41 rfl (by have e := Option.some.inj h; subst e; exact ⟨rfl, rfl⟩)
  · have h := sv_if c1 h
    refine sv_aload_n hC dX6_reads_11 0 rfl rfl ?_
    refine sv_get hC in_X6 0 rfl rfl 0 (by decide) q1056 rfl (v := .ref (a 0)) rfl dX6_reads_12 ?_
    refine sv_aload_n hC dX6_reads_15 0 rfl rfl ?_
    refine sv_get hC in_X6 0 rfl rfl 22 (by decide) q1078 rfl (v := .int (σ.1 22)) rfl dX6_reads_16 ?_
    obtain ⟨j2, ej2, h⟩ := sv_ob h
    refine sv_iald hC 1 (f := σ.2 0) rfl rfl (j := j2) ej2 dX6_reads_19 ?_
    obtain ⟨r3, er3, h⟩ := sv_ob h
    refine sv_pSi (nn := 1) hC (met_md_sort hC.F (σ.2 0 j2) er3) (lw_S q1198 q1199 q62 q1200) (by decide +kernel) ⟨by decide, by decide⟩ ⟨rfl, rfl⟩ rfl rfl (Nat.le_of_ble_eq_true rfl) ⟨Nat.le_refl 0, Nat.le_refl 0⟩ dX6_reads_20 ?_
    refine sv_iconst hC (v := 2) dX6_reads_23 (by decide) ?_
    refine sv_icmp_ne hC (tgt := 40) dX6_reads_24 (by decide) (fun c4 => ?_) (fun c4 => ?_)
    · have h := sv_if c4 h
      refine sv_iconst hC (v := 0) dX6_reads_40 (by decide) ?_
      exact sv_zret hC hQ dX6_reads_41 rfl (by have e := Option.some.inj h; subst e; exact ⟨rfl, rfl⟩)
    · have h := sv_it c4 h
      refine sv_aload_n hC dX6_reads_27 0 rfl rfl ?_
      refine sv_get hC in_X6 0 rfl rfl 23 (by decide) q1079 rfl (v := .int (σ.1 23)) rfl dX6_reads_28 ?_
      refine sv_aload_n hC dX6_reads_31 0 rfl rfl ?_
      refine sv_get hC in_X6 0 rfl rfl 22 (by decide) q1078 rfl (v := .int (σ.1 22)) rfl dX6_reads_32 ?_
      refine sv_isub hC dX6_reads_35 ?_
      refine sv_iconst hC (v := 3) dX6_reads_36 (by decide) ?_
      refine sv_icmp_le hC (tgt := 42) dX6_reads_37 (by decide) (fun c5 => ?_) (fun c5 => ?_)
      · have h := sv_it c5 h
        refine sv_iconst hC (v := 0) dX6_reads_42 (by decide) ?_
        refine sv_istore hC dX6_reads_43 (by decide) (lvq := [(4, .int 0), (0, .ref ho), (1, .int x1), (2, .int x2), (3, .int x3)]) rfl ?_
        refine sv_aload_n hC dX6_reads_45 1 rfl rfl ?_
        refine sv_get hC in_X6 0 rfl rfl 22 (by decide) q1078 rfl (v := .int (σ.1 22)) rfl dX6_reads_46 ?_
        refine sv_istore hC dX6_reads_49 (by decide) (lvq := [(5, .int (σ.1 22)), (4, .int 0), (0, .ref ho), (1, .int x1), (2, .int x2), (3, .int x3)]) rfl ?_
        refine sv_loc [2, 3, 4, 5, 1, 0] (lvq := [(0, .ref ho), (1, .int x1), (2, .int x2), (3, .int x3), (4, .int 0), (5, .int (σ.1 22))]) rfl ?_
        exact wk_md_reads_51 ho a hC hQ sv_FU x1 x2 x3 0 (σ.1 22) σ h
      · have h := sv_if c5 h
        refine sv_iconst hC (v := 0) dX6_reads_40 (by decide) ?_
        exact sv_zret hC hQ dX6_reads_41 rfl (by have e := Option.some.inj h; subst e; exact ⟨rfl, rfl⟩)
set_option maxHeartbeats 2000000 in
theorem met_md_reads {l : Launch} {s0 : State} {D : va_G} {dA : Nat → ClassId} (hF : sv_F s0 D dA) (ho : Nat) (a : Nat → Nat) (x1 : Int32) (x2 : Int32) (x3 : Int32) (σ : MSt) {r0 : Int32 × MSt} (h : md_reads x1 x2 x3 σ = some r0) : sv_M l s0 D yX6_reads cX6_reads 6 (some .boolean) rm_X6_reads [.ref ho, .int x1, .int x2, .int x3] (MW dA ho a σ) (sv_pI r0.1 (MW dA ho a r0.2)) :=
  sv_met hF (by decide) (Nat.le_of_ble_eq_true rfl) (fun Γ hC hQ hmn e1 e2 e3 e4 => by
    subst e1 e2 e3 e4
    exact wk_md_reads ho a hC hQ x1 x2 x3 σ h)
set_option maxHeartbeats 2000000 in
theorem wk_md_readsRest {Γ : sv_G} (ho : Nat) (a : Nat → Nat) (hC : sv_C Γ cX6_readsRest 2 RX6 (some .boolean) rm_X6_readsRest) {r0 : Int32 × MSt} (hQ : sv_RQ Γ (sv_pI r0.1 (MW (sg_dA Γ) ho a r0.2)) 0 0) (x1 : Int32) (σ : MSt) (h : md_readsRest x1 σ = some r0) : sv_V Γ (MW (sg_dA Γ) ho a σ) 0 0 0 [(0, .ref ho), (1, .int x1)] [] := by
  unfold md_readsRest at h
  refine sv_iload_n hC dX6_readsRest_0 1 rfl rfl ?_
  by_cases c1 : x1 = 0
  · have h := sv_it c1 h
    refine sv_tabIn hC (tgt := 44) dX6_readsRest_1 0 c1 (by decide) (by decide) rfl (by decide) ?_
    refine sv_aload_n hC dX6_readsRest_44 0 rfl rfl ?_
    refine sv_iconst hC (v := 0) dX6_readsRest_45 (by decide) ?_
    refine sv_iconst hC (v := 0) dX6_readsRest_46 (by decide) ?_
    refine sv_iconst hC (v := 3) dX6_readsRest_47 (by decide) ?_
    obtain ⟨p2, ep2, h⟩ := sv_ob h
    refine sv_wVi (nn := 3) hC (met_md_reads hC.F ho a 0 0 3 σ ep2) 0 0 rfl rfl rfl (lw_V q1221 q1223 qs28 q62 q1224) (by decide +kernel) ⟨by decide, by decide⟩ ⟨rfl, rfl⟩ rfl rfl (Nat.le_of_ble_eq_true rfl) ⟨Nat.le_refl 0, Nat.le_refl 0⟩ dX6_readsRest_48 ?_
    refine sv_if_eq hC (tgt := 92) dX6_readsRest_51 (by decide) (fun c3 => ?_) (fun c3 => ?_)
    · have h := sv_it c3 h
      refine sv_iconst hC (v := 0) dX6_readsRest_92 (by decide) ?_
      exact sv_zret hC hQ dX6_readsRest_93 rfl (by have e := Option.some.inj h; subst e; exact ⟨rfl, rfl⟩)
    · have h := sv_if c3 h
      refine sv_aload_n hC dX6_readsRest_54 0 rfl rfl ?_
      refine sv_iconst hC (v := 1) dX6_readsRest_55 (by decide) ?_
      refine sv_iconst hC (v := 0) dX6_readsRest_56 (by decide) ?_
      refine sv_sipush hC (v := 999) dX6_readsRest_57 (by decide) ?_
      obtain ⟨p4, ep4, h⟩ := sv_ob h
      refine sv_wVi (nn := 3) hC (met_md_reads hC.F ho a 1 0 999 p2.2 ep4) 0 0 rfl rfl rfl (lw_V q1221 q1223 qs28 q62 q1224) (by decide +kernel) ⟨by decide, by decide⟩ ⟨rfl, rfl⟩ rfl rfl (Nat.le_of_ble_eq_true rfl) ⟨Nat.le_refl 0, Nat.le_refl 0⟩ dX6_readsRest_60 ?_
      refine sv_if_eq hC (tgt := 92) dX6_readsRest_63 (by decide) (fun c5 => ?_) (fun c5 => ?_)
      · have h := sv_it c5 h
        refine sv_iconst hC (v := 0) dX6_readsRest_92 (by decide) ?_
        exact sv_zret hC hQ dX6_readsRest_93 rfl (by have e := Option.some.inj h; subst e; exact ⟨rfl, rfl⟩)
      · have h := sv_if c5 h
        refine sv_aload_n hC dX6_readsRest_66 0 rfl rfl ?_
        refine sv_iconst hC (v := 2) dX6_readsRest_67 (by decide) ?_
        refine sv_iconst hC (v := 0) dX6_readsRest_68 (by decide) ?_
        refine sv_sipush hC (v := 999) dX6_readsRest_69 (by decide) ?_
        obtain ⟨p6, ep6, h⟩ := sv_ob h
        refine sv_wVi (nn := 3) hC (met_md_reads hC.F ho a 2 0 999 p4.2 ep6) 0 0 rfl rfl rfl (lw_V q1221 q1223 qs28 q62 q1224) (by decide +kernel) ⟨by decide, by decide⟩ ⟨rfl, rfl⟩ rfl rfl (Nat.le_of_ble_eq_true rfl) ⟨Nat.le_refl 0, Nat.le_refl 0⟩ dX6_readsRest_72 ?_
        refine sv_if_eq hC (tgt := 92) dX6_readsRest_75 (by decide) (fun c7 => ?_) (fun c7 => ?_)
        · have h := sv_it c7 h
          refine sv_iconst hC (v := 0) dX6_readsRest_92 (by decide) ?_
          exact sv_zret hC hQ dX6_readsRest_93 rfl (by have e := Option.some.inj h; subst e; exact ⟨rfl, rfl⟩)
        · have h := sv_if c7 h
          refine sv_aload_n hC dX6_readsRest_78 0 rfl rfl ?_
          refine sv_iconst hC (v := 3) dX6_readsRest_79 (by decide) ?_
          refine sv_iconst hC (v := 0) dX6_readsRest_80 (by decide) ?_
          refine sv_iconst hC (v := 3) dX6_readsRest_81 (by decide) ?_
          obtain ⟨p8, ep8, h⟩ := sv_ob h
          refine sv_wVi (nn := 3) hC (met_md_reads hC.F ho a 3 0 3 p6.2 ep8) 0 0 rfl rfl rfl (lw_V q1221 q1223 qs28 q62 q1224) (by decide +kernel) ⟨by decide, by decide⟩ ⟨rfl, rfl⟩ rfl rfl (Nat.le_of_ble_eq_true rfl) ⟨Nat.le_refl 0, Nat.le_refl 0⟩ dX6_readsRest_82 ?_
          refine sv_if_eq hC (tgt := 92) dX6_readsRest_85 (by decide) (fun c9 => ?_) (fun c9 => ?_)
          · have h := sv_it c9 h
            refine sv_iconst hC (v := 0) dX6_readsRest_92 (by decide) ?_
            exact sv_zret hC hQ dX6_readsRest_93 rfl (by have e := Option.some.inj h; subst e; exact ⟨rfl, rfl⟩)
          · have h := sv_if c9 h
            refine sv_iconst hC (v := 1) dX6_readsRest_88 (by decide) ?_
            refine sv_goto hC (tgt := 93) dX6_readsRest_89 (by decide) ?_
            exact sv_zret hC hQ dX6_readsRest_93 rfl (by have e := Option.some.inj h; subst e; exact ⟨rfl, rfl⟩)
  · have h := sv_if c1 h
    by_cases c10 : x1 = 1
    · have h := sv_it c10 h
      refine sv_tabIn hC (tgt := 94) dX6_readsRest_1 1 c10 (by decide) (by decide) rfl (by decide) ?_
      refine sv_aload_n hC dX6_readsRest_94 0 rfl rfl ?_
      refine sv_iconst hC (v := 0) dX6_readsRest_95 (by decide) ?_
      refine sv_iconst hC (v := 0) dX6_readsRest_96 (by decide) ?_
      refine sv_iconst hC (v := 3) dX6_readsRest_97 (by decide) ?_
      obtain ⟨p11, ep11, h⟩ := sv_ob h
      refine sv_wVi (nn := 3) hC (met_md_reads hC.F ho a 0 0 3 σ ep11) 0 0 rfl rfl rfl (lw_V q1221 q1223 qs28 q62 q1224) (by decide +kernel) ⟨by decide, by decide⟩ ⟨rfl, rfl⟩ rfl rfl (Nat.le_of_ble_eq_true rfl) ⟨Nat.le_refl 0, Nat.le_refl 0⟩ dX6_readsRest_98 ?_
      refine sv_if_eq hC (tgt := 119) dX6_readsRest_101 (by decide) (fun c12 => ?_) (fun c12 => ?_)
      · have h := sv_it c12 h
        refine sv_iconst hC (v := 0) dX6_readsRest_119 (by decide) ?_
        exact sv_zret hC hQ dX6_readsRest_120 rfl (by have e := Option.some.inj h; subst e; exact ⟨rfl, rfl⟩)
      · have h := sv_if c12 h
        refine sv_aload_n hC dX6_readsRest_104 0 rfl rfl ?_
        refine sv_iconst hC (v := 1) dX6_readsRest_105 (by decide) ?_
        refine sv_iconst hC (v := 1) dX6_readsRest_106 (by decide) ?_
        refine sv_bipush hC (v := 99) dX6_readsRest_107 (by decide) ?_
        obtain ⟨p13, ep13, h⟩ := sv_ob h
        refine sv_wVi (nn := 3) hC (met_md_reads hC.F ho a 1 1 99 p11.2 ep13) 0 0 rfl rfl rfl (lw_V q1221 q1223 qs28 q62 q1224) (by decide +kernel) ⟨by decide, by decide⟩ ⟨rfl, rfl⟩ rfl rfl (Nat.le_of_ble_eq_true rfl) ⟨Nat.le_refl 0, Nat.le_refl 0⟩ dX6_readsRest_109 ?_
        refine sv_if_eq hC (tgt := 119) dX6_readsRest_112 (by decide) (fun c14 => ?_) (fun c14 => ?_)
        · have h := sv_it c14 h
          refine sv_iconst hC (v := 0) dX6_readsRest_119 (by decide) ?_
          exact sv_zret hC hQ dX6_readsRest_120 rfl (by have e := Option.some.inj h; subst e; exact ⟨rfl, rfl⟩)
        · have h := sv_if c14 h
          refine sv_iconst hC (v := 1) dX6_readsRest_115 (by decide) ?_
          refine sv_goto hC (tgt := 120) dX6_readsRest_116 (by decide) ?_
          exact sv_zret hC hQ dX6_readsRest_120 rfl (by have e := Option.some.inj h; subst e; exact ⟨rfl, rfl⟩)
    · have h := sv_if c10 h
      by_cases c15 : x1 = 2
      · have h := sv_it c15 h
        refine sv_tabIn hC (tgt := 121) dX6_readsRest_1 2 c15 (by decide) (by decide) rfl (by decide) ?_
        refine sv_aload_n hC dX6_readsRest_121 0 rfl rfl ?_
        refine sv_iconst hC (v := 0) dX6_readsRest_122 (by decide) ?_
        refine sv_iconst hC (v := 0) dX6_readsRest_123 (by decide) ?_
        refine sv_iconst hC (v := 3) dX6_readsRest_124 (by decide) ?_
        obtain ⟨p16, ep16, h⟩ := sv_ob h
        refine sv_wVi (nn := 3) hC (met_md_reads hC.F ho a 0 0 3 σ ep16) 0 0 rfl rfl rfl (lw_V q1221 q1223 qs28 q62 q1224) (by decide +kernel) ⟨by decide, by decide⟩ ⟨rfl, rfl⟩ rfl rfl (Nat.le_of_ble_eq_true rfl) ⟨Nat.le_refl 0, Nat.le_refl 0⟩ dX6_readsRest_125 ?_
        refine sv_if_eq hC (tgt := 158) dX6_readsRest_128 (by decide) (fun c17 => ?_) (fun c17 => ?_)
        · have h := sv_it c17 h
          refine sv_iconst hC (v := 0) dX6_readsRest_158 (by decide) ?_
          exact sv_zret hC hQ dX6_readsRest_159 rfl (by have e := Option.some.inj h; subst e; exact ⟨rfl, rfl⟩)
        · have h := sv_if c17 h
          refine sv_aload_n hC dX6_readsRest_131 0 rfl rfl ?_
          refine sv_iconst hC (v := 1) dX6_readsRest_132 (by decide) ?_
          refine sv_iconst hC (v := 0) dX6_readsRest_133 (by decide) ?_
          refine sv_sipush hC (v := 999) dX6_readsRest_134 (by decide) ?_
          obtain ⟨p18, ep18, h⟩ := sv_ob h
          refine sv_wVi (nn := 3) hC (met_md_reads hC.F ho a 1 0 999 p16.2 ep18) 0 0 rfl rfl rfl (lw_V q1221 q1223 qs28 q62 q1224) (by decide +kernel) ⟨by decide, by decide⟩ ⟨rfl, rfl⟩ rfl rfl (Nat.le_of_ble_eq_true rfl) ⟨Nat.le_refl 0, Nat.le_refl 0⟩ dX6_readsRest_137 ?_
          refine sv_if_eq hC (tgt := 158) dX6_readsRest_140 (by decide) (fun c19 => ?_) (fun c19 => ?_)
          · have h := sv_it c19 h
            refine sv_iconst hC (v := 0) dX6_readsRest_158 (by decide) ?_
            exact sv_zret hC hQ dX6_readsRest_159 rfl (by have e := Option.some.inj h; subst e; exact ⟨rfl, rfl⟩)
          · have h := sv_if c19 h
            refine sv_aload_n hC dX6_readsRest_143 0 rfl rfl ?_
            refine sv_iconst hC (v := 2) dX6_readsRest_144 (by decide) ?_
            refine sv_iconst hC (v := 0) dX6_readsRest_145 (by decide) ?_
            refine sv_bipush hC (v := 99) dX6_readsRest_146 (by decide) ?_
            obtain ⟨p20, ep20, h⟩ := sv_ob h
            refine sv_wVi (nn := 3) hC (met_md_reads hC.F ho a 2 0 99 p18.2 ep20) 0 0 rfl rfl rfl (lw_V q1221 q1223 qs28 q62 q1224) (by decide +kernel) ⟨by decide, by decide⟩ ⟨rfl, rfl⟩ rfl rfl (Nat.le_of_ble_eq_true rfl) ⟨Nat.le_refl 0, Nat.le_refl 0⟩ dX6_readsRest_148 ?_
            refine sv_if_eq hC (tgt := 158) dX6_readsRest_151 (by decide) (fun c21 => ?_) (fun c21 => ?_)
            · have h := sv_it c21 h
              refine sv_iconst hC (v := 0) dX6_readsRest_158 (by decide) ?_
              exact sv_zret hC hQ dX6_readsRest_159 rfl (by have e := Option.some.inj h; subst e; exact ⟨rfl, rfl⟩)
            · have h := sv_if c21 h
              refine sv_iconst hC (v := 1) dX6_readsRest_154 (by decide) ?_
              refine sv_goto hC (tgt := 159) dX6_readsRest_155 (by decide) ?_
              exact sv_zret hC hQ dX6_readsRest_159 rfl (by have e := Option.some.inj h; subst e; exact ⟨rfl, rfl⟩)
      · have h := sv_if c15 h
        by_cases c22 : x1 = 3
        · have h := sv_it c22 h
          refine sv_tabIn hC (tgt := 160) dX6_readsRest_1 3 c22 (by decide) (by decide) rfl (by decide) ?_
          refine sv_aload_n hC dX6_readsRest_160 0 rfl rfl ?_
          refine sv_iconst hC (v := 0) dX6_readsRest_161 (by decide) ?_
          refine sv_iconst hC (v := 0) dX6_readsRest_162 (by decide) ?_
          refine sv_bipush hC (v := 100) dX6_readsRest_163 (by decide) ?_
          obtain ⟨p23, ep23, h⟩ := sv_ob h
          refine sv_wVi (nn := 3) hC (met_md_reads hC.F ho a 0 0 100 σ ep23) 0 0 rfl rfl rfl (lw_V q1221 q1223 qs28 q62 q1224) (by decide +kernel) ⟨by decide, by decide⟩ ⟨rfl, rfl⟩ rfl rfl (Nat.le_of_ble_eq_true rfl) ⟨Nat.le_refl 0, Nat.le_refl 0⟩ dX6_readsRest_165 ?_
          obtain ⟨b24, eb24, h⟩ := sv_ob h
          obtain ⟨e1, e2⟩ := sv_zb_n eb24
          subst e1
          exact sv_zret hC hQ dX6_readsRest_168 e2 (by have e := Option.some.inj h; subst e; exact ⟨rfl, rfl⟩)
        · have h := sv_if c22 h
          by_cases c25 : x1 = 4
          · have h := sv_it c25 h
            refine sv_tabIn hC (tgt := 169) dX6_readsRest_1 4 c25 (by decide) (by decide) rfl (by decide) ?_
            refine sv_aload_n hC dX6_readsRest_169 0 rfl rfl ?_
            refine sv_iconst hC (v := 0) dX6_readsRest_170 (by decide) ?_
            refine sv_iconst hC (v := 0) dX6_readsRest_171 (by decide) ?_
            refine sv_sipush hC (v := 999) dX6_readsRest_172 (by decide) ?_
            obtain ⟨p26, ep26, h⟩ := sv_ob h
            refine sv_wVi (nn := 3) hC (met_md_reads hC.F ho a 0 0 999 σ ep26) 0 0 rfl rfl rfl (lw_V q1221 q1223 qs28 q62 q1224) (by decide +kernel) ⟨by decide, by decide⟩ ⟨rfl, rfl⟩ rfl rfl (Nat.le_of_ble_eq_true rfl) ⟨Nat.le_refl 0, Nat.le_refl 0⟩ dX6_readsRest_175 ?_
            obtain ⟨b27, eb27, h⟩ := sv_ob h
            obtain ⟨e1, e2⟩ := sv_zb_n eb27
            subst e1
            exact sv_zret hC hQ dX6_readsRest_178 e2 (by have e := Option.some.inj h; subst e; exact ⟨rfl, rfl⟩)
          · have h := sv_if c25 h
            by_cases c28 : x1 = 5
            · have h := sv_it c28 h
              refine sv_tabIn hC (tgt := 179) dX6_readsRest_1 5 c28 (by decide) (by decide) rfl (by decide) ?_
              refine sv_aload_n hC dX6_readsRest_179 0 rfl rfl ?_
              refine sv_iconst hC (v := 0) dX6_readsRest_180 (by decide) ?_
              refine sv_iconst hC (v := 1) dX6_readsRest_181 (by decide) ?_
              refine sv_bipush hC (v := 9) dX6_readsRest_182 (by decide) ?_
              obtain ⟨p29, ep29, h⟩ := sv_ob h
              refine sv_wVi (nn := 3) hC (met_md_reads hC.F ho a 0 1 9 σ ep29) 0 0 rfl rfl rfl (lw_V q1221 q1223 qs28 q62 q1224) (by decide +kernel) ⟨by decide, by decide⟩ ⟨rfl, rfl⟩ rfl rfl (Nat.le_of_ble_eq_true rfl) ⟨Nat.le_refl 0, Nat.le_refl 0⟩ dX6_readsRest_184 ?_
              obtain ⟨b30, eb30, h⟩ := sv_ob h
              obtain ⟨e1, e2⟩ := sv_zb_n eb30
              subst e1
              exact sv_zret hC hQ dX6_readsRest_187 e2 (by have e := Option.some.inj h; subst e; exact ⟨rfl, rfl⟩)
            · have h := sv_if c28 h
              by_cases c31 : x1 = 6
              · have h := sv_it c31 h
                refine sv_tabIn hC (tgt := 188) dX6_readsRest_1 6 c31 (by decide) (by decide) rfl (by decide) ?_
                refine sv_aload_n hC dX6_readsRest_188 0 rfl rfl ?_
                refine sv_iconst hC (v := 0) dX6_readsRest_189 (by decide) ?_
                refine sv_iconst hC (v := 1) dX6_readsRest_190 (by decide) ?_
                refine sv_bipush hC (v := 21) dX6_readsRest_191 (by decide) ?_
                obtain ⟨p32, ep32, h⟩ := sv_ob h
                refine sv_wVi (nn := 3) hC (met_md_reads hC.F ho a 0 1 21 σ ep32) 0 0 rfl rfl rfl (lw_V q1221 q1223 qs28 q62 q1224) (by decide +kernel) ⟨by decide, by decide⟩ ⟨rfl, rfl⟩ rfl rfl (Nat.le_of_ble_eq_true rfl) ⟨Nat.le_refl 0, Nat.le_refl 0⟩ dX6_readsRest_193 ?_
                obtain ⟨b33, eb33, h⟩ := sv_ob h
                obtain ⟨e1, e2⟩ := sv_zb_n eb33
                subst e1
                exact sv_zret hC hQ dX6_readsRest_196 e2 (by have e := Option.some.inj h; subst e; exact ⟨rfl, rfl⟩)
              · have h := sv_if c31 h
                have hso : x1.toInt < 0 ∨ ((6 : Nat) : Int) < x1.toInt := sv_swOut (N := 6) (by decide) (fun j hj => by
                  rcases (show j = 0 ∨ j = 1 ∨ j = 2 ∨ j = 3 ∨ j = 4 ∨ j = 5 ∨ j = 6 by omega) with rfl | rfl | rfl | rfl | rfl | rfl | rfl
                  · exact c1
                  · exact c10
                  · exact c15
                  · exact c22
                  · exact c25
                  · exact c28
                  · exact c31)
                refine sv_tabOut hC (tgt := 197) dX6_readsRest_1 hso (by decide) ?_
                refine sv_aload_n hC dX6_readsRest_197 0 rfl rfl ?_
                refine sv_iconst hC (v := 0) dX6_readsRest_198 (by decide) ?_
                refine sv_iconst hC (v := 0) dX6_readsRest_199 (by decide) ?_
                refine sv_iconst hC (v := 3) dX6_readsRest_200 (by decide) ?_
                obtain ⟨p34, ep34, h⟩ := sv_ob h
                refine sv_wVi (nn := 3) hC (met_md_reads hC.F ho a 0 0 3 σ ep34) 0 0 rfl rfl rfl (lw_V q1221 q1223 qs28 q62 q1224) (by decide +kernel) ⟨by decide, by decide⟩ ⟨rfl, rfl⟩ rfl rfl (Nat.le_of_ble_eq_true rfl) ⟨Nat.le_refl 0, Nat.le_refl 0⟩ dX6_readsRest_201 ?_
                obtain ⟨b35, eb35, h⟩ := sv_ob h
                obtain ⟨e1, e2⟩ := sv_zb_n eb35
                subst e1
                exact sv_zret hC hQ dX6_readsRest_204 e2 (by have e := Option.some.inj h; subst e; exact ⟨rfl, rfl⟩)
set_option maxHeartbeats 2000000 in
theorem met_md_readsRest {l : Launch} {s0 : State} {D : va_G} {dA : Nat → ClassId} (hF : sv_F s0 D dA) (ho : Nat) (a : Nat → Nat) (x1 : Int32) (σ : MSt) {r0 : Int32 × MSt} (h : md_readsRest x1 σ = some r0) : sv_M l s0 D yX6_readsRest cX6_readsRest 2 (some .boolean) rm_X6_readsRest [.ref ho, .int x1] (MW dA ho a σ) (sv_pI r0.1 (MW dA ho a r0.2)) :=
  sv_met hF (by decide) (Nat.le_of_ble_eq_true rfl) (fun Γ hC hQ hmn e1 e2 e3 e4 => by
    subst e1 e2 e3 e4
    exact wk_md_readsRest ho a hC hQ x1 σ h)
set_option maxHeartbeats 2000000 in
theorem wk_md_readsLine_115 {Γ : sv_G} (ho : Nat) (a : Nat → Nat) (hC : sv_C Γ cX6_readsLine 2 RX6 (some .boolean) rm_X6_readsLine) {r0 : Int32 × MSt} (hQ : sv_RQ Γ (sv_pI r0.1 (MW (sg_dA Γ) ho a r0.2)) 0 0)  (t0 : Int32) (σ : MSt)  (h : md_readsLine_115 t0 σ = some r0) : sv_V Γ (MW (sg_dA Γ) ho a σ) 0 0 115 [(0, .ref ho)] [.int t0] := by
  unfold md_readsLine_115 at h
  refine sv_istore_n hC dX6_readsLine_115 rfl (by decide) (lvq := [(1, .int t0), (0, .ref ho)]) rfl ?_
  refine sv_iload_n hC dX6_readsLine_116 0 rfl rfl ?_
  refine sv_iconst hC (v := (-1)) dX6_readsLine_117 (by decide) ?_
  refine sv_icmp_ne hC (tgt := 123) dX6_readsLine_118 (by decide) (fun c17 => ?_) (fun c17 => ?_)
  · have h := sv_if c17 h
    refine sv_aload_n hC dX6_readsLine_123 1 rfl rfl ?_
    obtain ⟨s18, es18, h⟩ := sv_ob h
    refine sv_wVv (nn := 0) hC (met_md_token hC.F ho a σ es18) 0 0 rfl rfl rfl (lw_V q1194 q1196 qs24 q62 q1197) (by decide +kernel) ⟨by decide, by decide⟩ ⟨rfl, rfl⟩ rfl rfl (Nat.le_of_ble_eq_true rfl) ⟨Nat.le_refl 0, Nat.le_refl 0⟩ dX6_readsLine_124 ?_
    refine sv_aload_n hC dX6_readsLine_127 1 rfl rfl ?_
    refine sv_get hC in_X6 0 rfl rfl 2 (by decide) q1058 rfl (v := .ref (a 2)) rfl dX6_readsLine_128 ?_
    refine sv_iconst hC (v := 5) dX6_readsLine_131 (by decide) ?_
    refine sv_aload_n hC dX6_readsLine_132 1 rfl rfl ?_
    refine sv_get hC in_X6 0 rfl rfl 3 (by decide) q1059 rfl (v := .int (s18.1 3)) rfl dX6_readsLine_133 ?_
    refine sv_imul hC dX6_readsLine_136 ?_
    refine sv_iload_n hC dX6_readsLine_137 0 rfl rfl ?_
    obtain ⟨j19, ej19, h⟩ := sv_ob h
    refine sv_iast hC 2 (f := s18.2 2) rfl rfl (j := j19) ej19 (Xq := MW (sg_dA Γ) ho a (ms_a s18 2 j19 t0)) rfl dX6_readsLine_138 ?_
    refine sv_aload_n hC dX6_readsLine_139 1 rfl rfl ?_
    refine sv_iload_n hC dX6_readsLine_140 0 rfl rfl ?_
    obtain ⟨p20, ep20, h⟩ := sv_ob h
    refine sv_wVi (nn := 1) hC (met_md_readsRest hC.F ho a t0 (ms_a s18 2 j19 t0) ep20) 0 0 rfl rfl rfl (lw_V q1217 q1219 qs27 q62 q1220) (by decide +kernel) ⟨by decide, by decide⟩ ⟨rfl, rfl⟩ rfl rfl (Nat.le_of_ble_eq_true rfl) ⟨Nat.le_refl 0, Nat.le_refl 0⟩ dX6_readsLine_141 ?_
    refine sv_if_ne hC (tgt := 149) dX6_readsLine_144 (by decide) (fun c21 => ?_) (fun c21 => ?_)
    · have h := sv_if c21 h
      refine sv_aload_n hC dX6_readsLine_149 1 rfl rfl ?_
      refine sv_dup hC dX6_readsLine_150 rfl ?_
      refine sv_get hC in_X6 0 rfl rfl 3 (by decide) q1059 rfl (v := .int (p20.2.1 3)) rfl dX6_readsLine_151 ?_
      refine sv_iconst hC (v := 1) dX6_readsLine_154 (by decide) ?_
      refine sv_iadd hC dX6_readsLine_155 ?_
      refine sv_put hC in_X6 tyX6 tyX6_ok nmX6 0 rfl rfl 3 (by decide) q1059 rfl rfl rfl rfl (Nat.le_of_ble_eq_true rfl) (Xq := MW (sg_dA Γ) ho a (ms_s p20.2 3 ((p20.2.1 3) + 1))) rfl dX6_readsLine_156 ?_
      refine sv_iconst hC (v := 1) dX6_readsLine_159 (by decide) ?_
      exact sv_zret hC hQ dX6_readsLine_160 rfl (by have e := Option.some.inj h; subst e; exact ⟨rfl, rfl⟩)
    · have h := sv_it c21 h
      refine sv_iconst hC (v := 0) dX6_readsLine_147 (by decide) ?_
      exact sv_zret hC hQ dX6_readsLine_148 rfl (by have e := Option.some.inj h; subst e; exact ⟨rfl, rfl⟩)
  · have h := sv_it c17 h
    refine sv_iconst hC (v := 0) dX6_readsLine_121 (by decide) ?_
    exact sv_zret hC hQ dX6_readsLine_122 rfl (by have e := Option.some.inj h; subst e; exact ⟨rfl, rfl⟩)
set_option maxHeartbeats 2000000 in
theorem wk_md_readsLine {Γ : sv_G} (ho : Nat) (a : Nat → Nat) (hC : sv_C Γ cX6_readsLine 2 RX6 (some .boolean) rm_X6_readsLine) {r0 : Int32 × MSt} (hQ : sv_RQ Γ (sv_pI r0.1 (MW (sg_dA Γ) ho a r0.2)) 0 0) (σ : MSt) (h : md_readsLine σ = some r0) : sv_V Γ (MW (sg_dA Γ) ho a σ) 0 0 0 [(0, .ref ho)] [] := by
  unfold md_readsLine at h
  refine sv_aload_n hC dX6_readsLine_0 0 rfl rfl ?_
  refine sv_ldc hC dX6_readsLine_1 q1205 ?_
  refine sv_iconst hC (v := 5) dX6_readsLine_3 (by decide) ?_
  obtain ⟨r1, er1, h⟩ := sv_ob h
  refine sv_wVi (nn := 2) hC (met_md_isWord hC.F ho a σ 4592934 5 er1) 0 0 rfl rfl rfl (lw_V q1206 q1208 qs26 q62 q1209) (by decide +kernel) ⟨by decide, by decide⟩ ⟨rfl, rfl⟩ rfl rfl (Nat.le_of_ble_eq_true rfl) ⟨Nat.le_refl 0, Nat.le_refl 0⟩ dX6_readsLine_4 ?_
  refine sv_if_eq hC (tgt := 14) dX6_readsLine_7 (by decide) (fun c2 => ?_) (fun c2 => ?_)
  · have h := sv_it c2 h
    refine sv_aload_n hC dX6_readsLine_14 0 rfl rfl ?_
    refine sv_ldc hC dX6_readsLine_15 q1210 ?_
    refine sv_iconst hC (v := 5) dX6_readsLine_17 (by decide) ?_
    obtain ⟨r3, er3, h⟩ := sv_ob h
    refine sv_wVi (nn := 2) hC (met_md_isWord hC.F ho a σ 11648390 5 er3) 0 0 rfl rfl rfl (lw_V q1206 q1208 qs26 q62 q1209) (by decide +kernel) ⟨by decide, by decide⟩ ⟨rfl, rfl⟩ rfl rfl (Nat.le_of_ble_eq_true rfl) ⟨Nat.le_refl 0, Nat.le_refl 0⟩ dX6_readsLine_18 ?_
    refine sv_if_eq hC (tgt := 28) dX6_readsLine_21 (by decide) (fun c4 => ?_) (fun c4 => ?_)
    · have h := sv_it c4 h
      refine sv_aload_n hC dX6_readsLine_28 0 rfl rfl ?_
      refine sv_ldc hC dX6_readsLine_29 q1211 ?_
      refine sv_iconst hC (v := 4) dX6_readsLine_31 (by decide) ?_
      obtain ⟨r5, er5, h⟩ := sv_ob h
      refine sv_wVi (nn := 2) hC (met_md_isWord hC.F ho a σ 656867 4 er5) 0 0 rfl rfl rfl (lw_V q1206 q1208 qs26 q62 q1209) (by decide +kernel) ⟨by decide, by decide⟩ ⟨rfl, rfl⟩ rfl rfl (Nat.le_of_ble_eq_true rfl) ⟨Nat.le_refl 0, Nat.le_refl 0⟩ dX6_readsLine_32 ?_
      refine sv_if_eq hC (tgt := 42) dX6_readsLine_35 (by decide) (fun c6 => ?_) (fun c6 => ?_)
      · have h := sv_it c6 h
        refine sv_aload_n hC dX6_readsLine_42 0 rfl rfl ?_
        refine sv_ldc hC dX6_readsLine_43 q1212 ?_
        refine sv_iconst hC (v := 4) dX6_readsLine_45 (by decide) ?_
        obtain ⟨r7, er7, h⟩ := sv_ob h
        refine sv_wVi (nn := 2) hC (met_md_isWord hC.F ho a σ 405684 4 er7) 0 0 rfl rfl rfl (lw_V q1206 q1208 qs26 q62 q1209) (by decide +kernel) ⟨by decide, by decide⟩ ⟨rfl, rfl⟩ rfl rfl (Nat.le_of_ble_eq_true rfl) ⟨Nat.le_refl 0, Nat.le_refl 0⟩ dX6_readsLine_46 ?_
        refine sv_if_eq hC (tgt := 56) dX6_readsLine_49 (by decide) (fun c8 => ?_) (fun c8 => ?_)
        · have h := sv_it c8 h
          refine sv_aload_n hC dX6_readsLine_56 0 rfl rfl ?_
          refine sv_ldc hC dX6_readsLine_57 q1213 ?_
          refine sv_iconst hC (v := 4) dX6_readsLine_59 (by decide) ?_
          obtain ⟨r9, er9, h⟩ := sv_ob h
          refine sv_wVi (nn := 2) hC (met_md_isWord hC.F ho a σ 171063 4 er9) 0 0 rfl rfl rfl (lw_V q1206 q1208 qs26 q62 q1209) (by decide +kernel) ⟨by decide, by decide⟩ ⟨rfl, rfl⟩ rfl rfl (Nat.le_of_ble_eq_true rfl) ⟨Nat.le_refl 0, Nat.le_refl 0⟩ dX6_readsLine_60 ?_
          refine sv_if_eq hC (tgt := 70) dX6_readsLine_63 (by decide) (fun c10 => ?_) (fun c10 => ?_)
          · have h := sv_it c10 h
            refine sv_aload_n hC dX6_readsLine_70 0 rfl rfl ?_
            refine sv_ldc hC dX6_readsLine_71 q1214 ?_
            refine sv_iconst hC (v := 5) dX6_readsLine_73 (by decide) ?_
            obtain ⟨r11, er11, h⟩ := sv_ob h
            refine sv_wVi (nn := 2) hC (met_md_isWord hC.F ho a σ 5350992 5 er11) 0 0 rfl rfl rfl (lw_V q1206 q1208 qs26 q62 q1209) (by decide +kernel) ⟨by decide, by decide⟩ ⟨rfl, rfl⟩ rfl rfl (Nat.le_of_ble_eq_true rfl) ⟨Nat.le_refl 0, Nat.le_refl 0⟩ dX6_readsLine_74 ?_
            refine sv_if_eq hC (tgt := 84) dX6_readsLine_77 (by decide) (fun c12 => ?_) (fun c12 => ?_)
            · have h := sv_it c12 h
              refine sv_aload_n hC dX6_readsLine_84 0 rfl rfl ?_
              refine sv_ldc hC dX6_readsLine_85 q1215 ?_
              refine sv_iconst hC (v := 4) dX6_readsLine_87 (by decide) ?_
              obtain ⟨r13, er13, h⟩ := sv_ob h
              refine sv_wVi (nn := 2) hC (met_md_isWord hC.F ho a σ 648228 4 er13) 0 0 rfl rfl rfl (lw_V q1206 q1208 qs26 q62 q1209) (by decide +kernel) ⟨by decide, by decide⟩ ⟨rfl, rfl⟩ rfl rfl (Nat.le_of_ble_eq_true rfl) ⟨Nat.le_refl 0, Nat.le_refl 0⟩ dX6_readsLine_88 ?_
              refine sv_if_eq hC (tgt := 99) dX6_readsLine_91 (by decide) (fun c14 => ?_) (fun c14 => ?_)
              · have h := sv_it c14 h
                refine sv_aload_n hC dX6_readsLine_99 0 rfl rfl ?_
                refine sv_ldc hC dX6_readsLine_100 q1216 ?_
                refine sv_iconst hC (v := 4) dX6_readsLine_102 (by decide) ?_
                obtain ⟨r15, er15, h⟩ := sv_ob h
                refine sv_wVi (nn := 2) hC (met_md_isWord hC.F ho a σ 182306 4 er15) 0 0 rfl rfl rfl (lw_V q1206 q1208 qs26 q62 q1209) (by decide +kernel) ⟨by decide, by decide⟩ ⟨rfl, rfl⟩ rfl rfl (Nat.le_of_ble_eq_true rfl) ⟨Nat.le_refl 0, Nat.le_refl 0⟩ dX6_readsLine_103 ?_
                refine sv_if_eq hC (tgt := 114) dX6_readsLine_106 (by decide) (fun c16 => ?_) (fun c16 => ?_)
                · have h := sv_it c16 h
                  refine sv_iconst hC (v := (-1)) dX6_readsLine_114 (by decide) ?_
                  exact wk_md_readsLine_115 ho a hC hQ (-1) σ h
                · have h := sv_if c16 h
                  refine sv_bipush hC (v := 7) dX6_readsLine_109 (by decide) ?_
                  refine sv_goto hC (tgt := 115) dX6_readsLine_111 (by decide) ?_
                  exact wk_md_readsLine_115 ho a hC hQ 7 σ h
              · have h := sv_if c14 h
                refine sv_bipush hC (v := 6) dX6_readsLine_94 (by decide) ?_
                refine sv_goto hC (tgt := 115) dX6_readsLine_96 (by decide) ?_
                exact wk_md_readsLine_115 ho a hC hQ 6 σ h
            · have h := sv_if c12 h
              refine sv_iconst hC (v := 5) dX6_readsLine_80 (by decide) ?_
              refine sv_goto hC (tgt := 115) dX6_readsLine_81 (by decide) ?_
              exact wk_md_readsLine_115 ho a hC hQ 5 σ h
          · have h := sv_if c10 h
            refine sv_iconst hC (v := 4) dX6_readsLine_66 (by decide) ?_
            refine sv_goto hC (tgt := 115) dX6_readsLine_67 (by decide) ?_
            exact wk_md_readsLine_115 ho a hC hQ 4 σ h
        · have h := sv_if c8 h
          refine sv_iconst hC (v := 3) dX6_readsLine_52 (by decide) ?_
          refine sv_goto hC (tgt := 115) dX6_readsLine_53 (by decide) ?_
          exact wk_md_readsLine_115 ho a hC hQ 3 σ h
      · have h := sv_if c6 h
        refine sv_iconst hC (v := 2) dX6_readsLine_38 (by decide) ?_
        refine sv_goto hC (tgt := 115) dX6_readsLine_39 (by decide) ?_
        exact wk_md_readsLine_115 ho a hC hQ 2 σ h
    · have h := sv_if c4 h
      refine sv_iconst hC (v := 1) dX6_readsLine_24 (by decide) ?_
      refine sv_goto hC (tgt := 115) dX6_readsLine_25 (by decide) ?_
      exact wk_md_readsLine_115 ho a hC hQ 1 σ h
  · have h := sv_if c2 h
    refine sv_iconst hC (v := 0) dX6_readsLine_10 (by decide) ?_
    refine sv_goto hC (tgt := 115) dX6_readsLine_11 (by decide) ?_
    exact wk_md_readsLine_115 ho a hC hQ 0 σ h
set_option maxHeartbeats 2000000 in
theorem met_md_readsLine {l : Launch} {s0 : State} {D : va_G} {dA : Nat → ClassId} (hF : sv_F s0 D dA) (ho : Nat) (a : Nat → Nat) (σ : MSt) {r0 : Int32 × MSt} (h : md_readsLine σ = some r0) : sv_M l s0 D yX6_readsLine cX6_readsLine 2 (some .boolean) rm_X6_readsLine [.ref ho] (MW dA ho a σ) (sv_pI r0.1 (MW dA ho a r0.2)) :=
  sv_met hF (by decide) (Nat.le_of_ble_eq_true rfl) (fun Γ hC hQ hmn e1 e2 e3 e4 => by
    subst e1 e2 e3 e4
    exact wk_md_readsLine ho a hC hQ σ h)
set_option maxHeartbeats 2000000 in
theorem wk_md_fault_92 {Γ : sv_G} (ho : Nat) (a : Nat → Nat) (hC : sv_C Γ cX6_fault 2 RX6 (some .int) rm_X6_fault) {r0 : Int32 × MSt} (hQ : sv_RQ Γ (sv_pI r0.1 (MW (sg_dA Γ) ho a r0.2)) 0 0) (rk_26 : MSt → Option (Int32 × MSt)) (hk_26 : ∀ (σ : MSt), rk_26 σ = some r0 → sv_V Γ (MW (sg_dA Γ) ho a σ) 0 0 26 [(0, .ref ho)] []) (x1 : Int32) (σ : MSt)  (h : md_fault_92 rk_26 x1 σ = some r0) : sv_V Γ (MW (sg_dA Γ) ho a σ) 0 0 92 [(0, .ref ho), (1, .int x1)] [] := by
  unfold md_fault_92 at h
  refine sv_iload_n hC dX6_fault_92 1 rfl rfl ?_
  refine sv_if_ne hC (tgt := 101) dX6_fault_93 (by decide) (fun c12 => ?_) (fun c12 => ?_)
  · have h := sv_if c12 h
    refine sv_goto hC (tgt := 26) dX6_fault_101 (by decide) ?_
    refine sv_loc [0] (lvq := [(0, .ref ho)]) rfl ?_
    exact hk_26 σ h
  · have h := sv_it c12 h
    refine sv_aload_n hC dX6_fault_96 0 rfl rfl ?_
    refine sv_get hC in_X6 0 rfl rfl 22 (by decide) q1078 rfl (v := .int (σ.1 22)) rfl dX6_fault_97 ?_
    exact sv_iret hC hQ dX6_fault_100 (by have e := Option.some.inj h; subst e; exact ⟨rfl, rfl⟩)
set_option maxHeartbeats 2000000 in
theorem wk_md_fault_78 {Γ : sv_G} (ho : Nat) (a : Nat → Nat) (hC : sv_C Γ cX6_fault 2 RX6 (some .int) rm_X6_fault) {r0 : Int32 × MSt} (hQ : sv_RQ Γ (sv_pI r0.1 (MW (sg_dA Γ) ho a r0.2)) 0 0) (rk_26 : MSt → Option (Int32 × MSt)) (hk_26 : ∀ (σ : MSt), rk_26 σ = some r0 → sv_V Γ (MW (sg_dA Γ) ho a σ) 0 0 26 [(0, .ref ho)] []) (t0 : Int32) (σ : MSt)  (h : md_fault_78 rk_26 t0 σ = some r0) : sv_V Γ (MW (sg_dA Γ) ho a σ) 0 0 78 [(0, .ref ho)] [.int t0] := by
  unfold md_fault_78 at h
  refine sv_istore_n hC dX6_fault_78 rfl (by decide) (lvq := [(1, .int t0), (0, .ref ho)]) rfl ?_
  refine sv_iload_n hC dX6_fault_79 0 rfl rfl ?_
  refine sv_if_eq hC (tgt := 92) dX6_fault_80 (by decide) (fun c9 => ?_) (fun c9 => ?_)
  · have h := sv_it c9 h
    refine sv_loc [1, 0] (lvq := [(0, .ref ho), (1, .int t0)]) rfl ?_
    exact wk_md_fault_92 ho a hC hQ rk_26 hk_26 t0 σ h
  · have h := sv_if c9 h
    refine sv_aload_n hC dX6_fault_83 1 rfl rfl ?_
    obtain ⟨s10, es10, h⟩ := sv_ob h
    refine sv_wVv (nn := 0) hC (met_md_token hC.F ho a σ es10) 0 0 rfl rfl rfl (lw_V q1194 q1196 qs24 q62 q1197) (by decide +kernel) ⟨by decide, by decide⟩ ⟨rfl, rfl⟩ rfl rfl (Nat.le_of_ble_eq_true rfl) ⟨Nat.le_refl 0, Nat.le_refl 0⟩ dX6_fault_84 ?_
    refine sv_aload_n hC dX6_fault_87 1 rfl rfl ?_
    obtain ⟨p11, ep11, h⟩ := sv_ob h
    refine sv_wVi (nn := 0) hC (met_md_readsLine hC.F ho a s10 ep11) 0 0 rfl rfl rfl (lw_V q1201 q1203 qs25 q62 q1204) (by decide +kernel) ⟨by decide, by decide⟩ ⟨rfl, rfl⟩ rfl rfl (Nat.le_of_ble_eq_true rfl) ⟨Nat.le_refl 0, Nat.le_refl 0⟩ dX6_fault_88 ?_
    refine sv_istore_n hC dX6_fault_91 rfl (by decide) (lvq := [(1, .int p11.1), (0, .ref ho)]) rfl ?_
    refine sv_loc [1, 0] (lvq := [(0, .ref ho), (1, .int p11.1)]) rfl ?_
    exact wk_md_fault_92 ho a hC hQ rk_26 hk_26 p11.1 p11.2 h
set_option maxHeartbeats 2000000 in
theorem wk_md_fault_26b {Γ : sv_G} (ho : Nat) (a : Nat → Nat) (hC : sv_C Γ cX6_fault 2 RX6 (some .int) rm_X6_fault) {r0 : Int32 × MSt} (hQ : sv_RQ Γ (sv_pI r0.1 (MW (sg_dA Γ) ho a r0.2)) 0 0)  (rk_26 : MSt → Option (Int32 × MSt)) (hk_26 : ∀ (σ : MSt), rk_26 σ = some r0 → sv_V Γ (MW (sg_dA Γ) ho a σ) 0 0 26 [(0, .ref ho)] []) (σ : MSt)  (h : md_fault_26b rk_26 σ = some r0) : sv_V Γ (MW (sg_dA Γ) ho a σ) 0 0 26 [(0, .ref ho)] [] := by
  unfold md_fault_26b at h
  refine sv_aload_n hC dX6_fault_26 0 rfl rfl ?_
  refine sv_get hC in_X6 0 rfl rfl 22 (by decide) q1078 rfl (v := .int (σ.1 22)) rfl dX6_fault_27 ?_
  refine sv_aload_n hC dX6_fault_30 0 rfl rfl ?_
  refine sv_get hC in_X6 0 rfl rfl 1 (by decide) q1057 rfl (v := .int (σ.1 1)) rfl dX6_fault_31 ?_
  refine sv_icmp_ge hC (tgt := 104) dX6_fault_34 (by decide) (fun c4 => ?_) (fun c4 => ?_)
  · have h := sv_it c4 h
    refine sv_iconst hC (v := (-1)) dX6_fault_104 (by decide) ?_
    exact sv_iret hC hQ dX6_fault_105 (by have e := Option.some.inj h; subst e; exact ⟨rfl, rfl⟩)
  · have h := sv_if c4 h
    refine sv_aload_n hC dX6_fault_37 0 rfl rfl ?_
    refine sv_get hC in_X6 0 rfl rfl 23 (by decide) q1079 rfl (v := .int (σ.1 23)) rfl dX6_fault_38 ?_
    refine sv_aload_n hC dX6_fault_41 0 rfl rfl ?_
    refine sv_get hC in_X6 0 rfl rfl 22 (by decide) q1078 rfl (v := .int (σ.1 22)) rfl dX6_fault_42 ?_
    refine sv_isub hC dX6_fault_45 ?_
    refine sv_iconst hC (v := 1) dX6_fault_46 (by decide) ?_
    refine sv_icmp_ne hC (tgt := 77) dX6_fault_47 (by decide) (fun c5 => ?_) (fun c5 => ?_)
    · have h := sv_if c5 h
      refine sv_iconst hC (v := 0) dX6_fault_77 (by decide) ?_
      exact wk_md_fault_78 ho a hC hQ rk_26 hk_26 0 σ h
    · have h := sv_it c5 h
      refine sv_aload_n hC dX6_fault_50 0 rfl rfl ?_
      refine sv_get hC in_X6 0 rfl rfl 0 (by decide) q1056 rfl (v := .ref (a 0)) rfl dX6_fault_51 ?_
      refine sv_aload_n hC dX6_fault_54 0 rfl rfl ?_
      refine sv_get hC in_X6 0 rfl rfl 22 (by decide) q1078 rfl (v := .int (σ.1 22)) rfl dX6_fault_55 ?_
      obtain ⟨j6, ej6, h⟩ := sv_ob h
      refine sv_iald hC 1 (f := σ.2 0) rfl rfl (j := j6) ej6 dX6_fault_58 ?_
      refine sv_bipush hC (v := 59) dX6_fault_59 (by decide) ?_
      refine sv_icmp_ne hC (tgt := 77) dX6_fault_61 (by decide) (fun c7 => ?_) (fun c7 => ?_)
      · have h := sv_if c7 h
        refine sv_iconst hC (v := 0) dX6_fault_77 (by decide) ?_
        exact wk_md_fault_78 ho a hC hQ rk_26 hk_26 0 σ h
      · have h := sv_it c7 h
        refine sv_aload_n hC dX6_fault_64 0 rfl rfl ?_
        refine sv_get hC in_X6 0 rfl rfl 3 (by decide) q1059 rfl (v := .int (σ.1 3)) rfl dX6_fault_65 ?_
        refine sv_bipush hC (v := 10) dX6_fault_68 (by decide) ?_
        refine sv_icmp_ge hC (tgt := 77) dX6_fault_70 (by decide) (fun c8 => ?_) (fun c8 => ?_)
        · have h := sv_it c8 h
          refine sv_iconst hC (v := 0) dX6_fault_77 (by decide) ?_
          exact wk_md_fault_78 ho a hC hQ rk_26 hk_26 0 σ h
        · have h := sv_if c8 h
          refine sv_iconst hC (v := 1) dX6_fault_73 (by decide) ?_
          refine sv_goto hC (tgt := 78) dX6_fault_74 (by decide) ?_
          exact wk_md_fault_78 ho a hC hQ rk_26 hk_26 1 σ h
set_option maxHeartbeats 2000000 in
theorem wk_md_fault_26 {Γ : sv_G} (ho : Nat) (a : Nat → Nat) (hC : sv_C Γ cX6_fault 2 RX6 (some .int) rm_X6_fault) {r0 : Int32 × MSt} (hQ : sv_RQ Γ (sv_pI r0.1 (MW (sg_dA Γ) ho a r0.2)) 0 0)  : ∀ (n : Nat) (σ : MSt)  (h : md_fault_26 n σ = some r0), sv_V Γ (MW (sg_dA Γ) ho a σ) 0 0 26 [(0, .ref ho)] [] := by
  intro n
  induction n with
  | zero => intro σ h; cases h
  | succ n ih => intro σ h; exact wk_md_fault_26b ho a hC hQ (md_fault_26 n) ih σ h
set_option maxHeartbeats 2000000 in
theorem wk_md_fault {Γ : sv_G} (ho : Nat) (a : Nat → Nat) (hC : sv_C Γ cX6_fault 2 RX6 (some .int) rm_X6_fault) {r0 : Int32 × MSt} (hQ : sv_RQ Γ (sv_pI r0.1 (MW (sg_dA Γ) ho a r0.2)) 0 0) (σ : MSt) (h : md_fault σ = some r0) : sv_V Γ (MW (sg_dA Γ) ho a σ) 0 0 0 [(0, .ref ho)] [] := by
  unfold md_fault at h
  refine sv_aload_n hC dX6_fault_0 0 rfl rfl ?_
  refine sv_iconst hC (v := 0) dX6_fault_1 (by decide) ?_
  refine sv_put hC in_X6 tyX6 tyX6_ok nmX6 0 rfl rfl 21 (by decide) q1077 rfl rfl rfl rfl (Nat.le_of_ble_eq_true rfl) (Xq := MW (sg_dA Γ) ho a (ms_s σ 21 0)) rfl dX6_fault_2 ?_
  refine sv_aload_n hC dX6_fault_5 0 rfl rfl ?_
  refine sv_iconst hC (v := 0) dX6_fault_6 (by decide) ?_
  refine sv_put hC in_X6 tyX6 tyX6_ok nmX6 0 rfl rfl 3 (by decide) q1059 rfl rfl rfl rfl (Nat.le_of_ble_eq_true rfl) (Xq := MW (sg_dA Γ) ho a (ms_s (ms_s σ 21 0) 3 0)) rfl dX6_fault_7 ?_
  refine sv_aload_n hC dX6_fault_10 0 rfl rfl ?_
  obtain ⟨s1, es1, h⟩ := sv_ob h
  refine sv_wVv (nn := 0) hC (met_md_token hC.F ho a (ms_s (ms_s σ 21 0) 3 0) es1) 0 0 rfl rfl rfl (lw_V q1194 q1196 qs24 q62 q1197) (by decide +kernel) ⟨by decide, by decide⟩ ⟨rfl, rfl⟩ rfl rfl (Nat.le_of_ble_eq_true rfl) ⟨Nat.le_refl 0, Nat.le_refl 0⟩ dX6_fault_11 ?_
  refine sv_aload_n hC dX6_fault_14 0 rfl rfl ?_
  obtain ⟨p2, ep2, h⟩ := sv_ob h
  refine sv_wVi (nn := 0) hC (met_md_readsLine hC.F ho a s1 ep2) 0 0 rfl rfl rfl (lw_V q1201 q1203 qs25 q62 q1204) (by decide +kernel) ⟨by decide, by decide⟩ ⟨rfl, rfl⟩ rfl rfl (Nat.le_of_ble_eq_true rfl) ⟨Nat.le_refl 0, Nat.le_refl 0⟩ dX6_fault_15 ?_
  refine sv_if_ne hC (tgt := 26) dX6_fault_18 (by decide) (fun c3 => ?_) (fun c3 => ?_)
  · have h := sv_if c3 h
    exact wk_md_fault_26 ho a hC hQ sv_FU p2.2 h
  · have h := sv_it c3 h
    refine sv_aload_n hC dX6_fault_21 0 rfl rfl ?_
    refine sv_get hC in_X6 0 rfl rfl 22 (by decide) q1078 rfl (v := .int (p2.2.1 22)) rfl dX6_fault_22 ?_
    exact sv_iret hC hQ dX6_fault_25 (by have e := Option.some.inj h; subst e; exact ⟨rfl, rfl⟩)
set_option maxHeartbeats 2000000 in
theorem met_md_fault {l : Launch} {s0 : State} {D : va_G} {dA : Nat → ClassId} (hF : sv_F s0 D dA) (ho : Nat) (a : Nat → Nat) (σ : MSt) {r0 : Int32 × MSt} (h : md_fault σ = some r0) : sv_M l s0 D yX6_fault cX6_fault 2 (some .int) rm_X6_fault [.ref ho] (MW dA ho a σ) (sv_pI r0.1 (MW dA ho a r0.2)) :=
  sv_met hF (by decide) (Nat.le_of_ble_eq_true rfl) (fun Γ hC hQ hmn e1 e2 e3 e4 => by
    subst e1 e2 e3 e4
    exact wk_md_fault ho a hC hQ σ h)
set_option maxHeartbeats 2000000 in
theorem wk_md_lay {Γ : sv_G} (ho : Nat) (a : Nat → Nat) (hC : sv_C Γ cX6_lay 5 RX6 none rm_X6_lay) {r0 : MSt} (hQ : sv_RQ Γ (sv_pV (MW (sg_dA Γ) ho a r0)) 0 0) (x1 : Int32) (σ : MSt) (h : md_lay x1 σ = some r0) : sv_V Γ (MW (sg_dA Γ) ho a σ) 0 0 0 [(0, .ref ho), (1, .int x1)] [] := by
  unfold md_lay at h
  refine sv_aload_n hC dX6_lay_0 0 rfl rfl ?_
  refine sv_get hC in_X6 0 rfl rfl 2 (by decide) q1058 rfl (v := .ref (a 2)) rfl dX6_lay_1 ?_
  refine sv_iload_n hC dX6_lay_4 1 rfl rfl ?_
  refine sv_iconst hC (v := 1) dX6_lay_5 (by decide) ?_
  refine sv_iadd hC dX6_lay_6 ?_
  obtain ⟨j1, ej1, h⟩ := sv_ob h
  refine sv_iald hC 2 (f := σ.2 2) rfl rfl (j := j1) ej1 dX6_lay_7 ?_
  refine sv_istore_n hC dX6_lay_8 rfl (by decide) (lvq := [(2, .int (σ.2 2 j1)), (0, .ref ho), (1, .int x1)]) rfl ?_
  refine sv_aload_n hC dX6_lay_9 1 rfl rfl ?_
  refine sv_get hC in_X6 0 rfl rfl 2 (by decide) q1058 rfl (v := .ref (a 2)) rfl dX6_lay_10 ?_
  refine sv_iload_n hC dX6_lay_13 2 rfl rfl ?_
  refine sv_iconst hC (v := 2) dX6_lay_14 (by decide) ?_
  refine sv_iadd hC dX6_lay_15 ?_
  obtain ⟨j2, ej2, h⟩ := sv_ob h
  refine sv_iald hC 2 (f := σ.2 2) rfl rfl (j := j2) ej2 dX6_lay_16 ?_
  refine sv_istore_n hC dX6_lay_17 rfl (by decide) (lvq := [(3, .int (σ.2 2 j2)), (2, .int (σ.2 2 j1)), (0, .ref ho), (1, .int x1)]) rfl ?_
  refine sv_aload_n hC dX6_lay_18 2 rfl rfl ?_
  refine sv_get hC in_X6 0 rfl rfl 2 (by decide) q1058 rfl (v := .ref (a 2)) rfl dX6_lay_19 ?_
  refine sv_iload_n hC dX6_lay_22 3 rfl rfl ?_
  refine sv_iconst hC (v := 3) dX6_lay_23 (by decide) ?_
  refine sv_iadd hC dX6_lay_24 ?_
  obtain ⟨j3, ej3, h⟩ := sv_ob h
  refine sv_iald hC 2 (f := σ.2 2) rfl rfl (j := j3) ej3 dX6_lay_25 ?_
  refine sv_istore hC dX6_lay_26 (by decide) (lvq := [(4, .int (σ.2 2 j3)), (3, .int (σ.2 2 j2)), (2, .int (σ.2 2 j1)), (0, .ref ho), (1, .int x1)]) rfl ?_
  refine sv_aload_n hC dX6_lay_28 3 rfl rfl ?_
  refine sv_get hC in_X6 0 rfl rfl 2 (by decide) q1058 rfl (v := .ref (a 2)) rfl dX6_lay_29 ?_
  refine sv_iload_n hC dX6_lay_32 4 rfl rfl ?_
  obtain ⟨j4, ej4, h⟩ := sv_ob h
  refine sv_iald hC 2 (f := σ.2 2) rfl rfl (j := j4) ej4 dX6_lay_33 ?_
  by_cases c5 : σ.2 2 j4 = 0
  · have h := sv_it c5 h
    refine sv_tabIn hC (tgt := 76) dX6_lay_34 0 c5 (by decide) (by decide) rfl (by decide) ?_
    refine sv_aload_n hC dX6_lay_76 3 rfl rfl ?_
    refine sv_dup hC dX6_lay_77 rfl ?_
    refine sv_get hC in_X6 0 rfl rfl 4 (by decide) q1060 rfl (v := .int (σ.1 4)) rfl dX6_lay_78 ?_
    refine sv_iconst hC (v := 1) dX6_lay_81 (by decide) ?_
    refine sv_iload_n hC dX6_lay_82 2 rfl rfl ?_
    refine sv_ishl hC dX6_lay_83 ?_
    refine sv_ior hC dX6_lay_84 ?_
    refine sv_put hC in_X6 tyX6 tyX6_ok nmX6 0 rfl rfl 4 (by decide) q1060 rfl rfl rfl rfl (Nat.le_of_ble_eq_true rfl) (Xq := MW (sg_dA Γ) ho a (ms_s σ 4 ((σ.1 4) ||| ((1 : Int32) <<< ((σ.2 2 j1) &&& 31))))) rfl dX6_lay_85 ?_
    refine sv_aload_n hC dX6_lay_88 3 rfl rfl ?_
    refine sv_get hC in_X6 0 rfl rfl 5 (by decide) q1061 rfl (v := .ref (a 5)) rfl dX6_lay_89 ?_
    refine sv_iload_n hC dX6_lay_92 2 rfl rfl ?_
    refine sv_iload_n hC dX6_lay_93 1 rfl rfl ?_
    obtain ⟨j6, ej6, h⟩ := sv_ob h
    refine sv_iast hC 3 (f := σ.2 5) rfl rfl (j := j6) ej6 (Xq := MW (sg_dA Γ) ho a (ms_a (ms_s σ 4 ((σ.1 4) ||| ((1 : Int32) <<< ((σ.2 2 j1) &&& 31)))) 5 j6 (σ.2 2 j2))) rfl dX6_lay_94 ?_
    refine sv_aload_n hC dX6_lay_95 3 rfl rfl ?_
    refine sv_get hC in_X6 0 rfl rfl 6 (by decide) q1062 rfl (v := .ref (a 6)) rfl dX6_lay_96 ?_
    refine sv_iload_n hC dX6_lay_99 2 rfl rfl ?_
    refine sv_iload hC dX6_lay_100 0 rfl ?_
    obtain ⟨j7, ej7, h⟩ := sv_ob h
    refine sv_iast hC 4 (f := σ.2 6) rfl rfl (j := j7) ej7 (Xq := MW (sg_dA Γ) ho a (ms_a (ms_a (ms_s σ 4 ((σ.1 4) ||| ((1 : Int32) <<< ((σ.2 2 j1) &&& 31)))) 5 j6 (σ.2 2 j2)) 6 j7 (σ.2 2 j3))) rfl dX6_lay_102 ?_
    refine sv_aload_n hC dX6_lay_103 3 rfl rfl ?_
    refine sv_get hC in_X6 0 rfl rfl 7 (by decide) q1063 rfl (v := .ref (a 7)) rfl dX6_lay_104 ?_
    refine sv_iload_n hC dX6_lay_107 2 rfl rfl ?_
    refine sv_aload_n hC dX6_lay_108 3 rfl rfl ?_
    refine sv_get hC in_X6 0 rfl rfl 2 (by decide) q1058 rfl (v := .ref (a 2)) rfl dX6_lay_109 ?_
    refine sv_iload_n hC dX6_lay_112 4 rfl rfl ?_
    refine sv_iconst hC (v := 4) dX6_lay_113 (by decide) ?_
    refine sv_iadd hC dX6_lay_114 ?_
    obtain ⟨j8, ej8, h⟩ := sv_ob h
    refine sv_iald hC 2 (f := σ.2 2) rfl rfl (j := j8) ej8 dX6_lay_115 ?_
    obtain ⟨j9, ej9, h⟩ := sv_ob h
    refine sv_iast hC 5 (f := σ.2 7) rfl rfl (j := j9) ej9 (Xq := MW (sg_dA Γ) ho a (ms_a (ms_a (ms_a (ms_s σ 4 ((σ.1 4) ||| ((1 : Int32) <<< ((σ.2 2 j1) &&& 31)))) 5 j6 (σ.2 2 j2)) 6 j7 (σ.2 2 j3)) 7 j9 (σ.2 2 j8))) rfl dX6_lay_116 ?_
    exact sv_vret hC hQ dX6_lay_117 (by have e := Option.some.inj h; subst e; exact ⟨rfl, rfl⟩)
  · have h := sv_if c5 h
    by_cases c10 : σ.2 2 j4 = 1
    · have h := sv_it c10 h
      refine sv_tabIn hC (tgt := 118) dX6_lay_34 1 c10 (by decide) (by decide) rfl (by decide) ?_
      refine sv_aload_n hC dX6_lay_118 3 rfl rfl ?_
      refine sv_dup hC dX6_lay_119 rfl ?_
      refine sv_get hC in_X6 0 rfl rfl 8 (by decide) q1064 rfl (v := .int (σ.1 8)) rfl dX6_lay_120 ?_
      refine sv_iconst hC (v := 1) dX6_lay_123 (by decide) ?_
      refine sv_iload_n hC dX6_lay_124 2 rfl rfl ?_
      refine sv_ishl hC dX6_lay_125 ?_
      refine sv_ior hC dX6_lay_126 ?_
      refine sv_put hC in_X6 tyX6 tyX6_ok nmX6 0 rfl rfl 8 (by decide) q1064 rfl rfl rfl rfl (Nat.le_of_ble_eq_true rfl) (Xq := MW (sg_dA Γ) ho a (ms_s σ 8 ((σ.1 8) ||| ((1 : Int32) <<< ((σ.2 2 j1) &&& 31))))) rfl dX6_lay_127 ?_
      refine sv_aload_n hC dX6_lay_130 3 rfl rfl ?_
      refine sv_get hC in_X6 0 rfl rfl 9 (by decide) q1065 rfl (v := .ref (a 9)) rfl dX6_lay_131 ?_
      refine sv_iload_n hC dX6_lay_134 2 rfl rfl ?_
      refine sv_iload_n hC dX6_lay_135 1 rfl rfl ?_
      obtain ⟨j11, ej11, h⟩ := sv_ob h
      refine sv_iast hC 6 (f := σ.2 9) rfl rfl (j := j11) ej11 (Xq := MW (sg_dA Γ) ho a (ms_a (ms_s σ 8 ((σ.1 8) ||| ((1 : Int32) <<< ((σ.2 2 j1) &&& 31)))) 9 j11 (σ.2 2 j2))) rfl dX6_lay_136 ?_
      exact sv_vret hC hQ dX6_lay_137 (by have e := Option.some.inj h; subst e; exact ⟨rfl, rfl⟩)
    · have h := sv_if c10 h
      by_cases c12 : σ.2 2 j4 = 2
      · have h := sv_it c12 h
        refine sv_tabIn hC (tgt := 138) dX6_lay_34 2 c12 (by decide) (by decide) rfl (by decide) ?_
        refine sv_aload_n hC dX6_lay_138 3 rfl rfl ?_
        refine sv_dup hC dX6_lay_139 rfl ?_
        refine sv_get hC in_X6 0 rfl rfl 10 (by decide) q1066 rfl (v := .int (σ.1 10)) rfl dX6_lay_140 ?_
        refine sv_iconst hC (v := 1) dX6_lay_143 (by decide) ?_
        refine sv_iload_n hC dX6_lay_144 2 rfl rfl ?_
        refine sv_ishl hC dX6_lay_145 ?_
        refine sv_ior hC dX6_lay_146 ?_
        refine sv_put hC in_X6 tyX6 tyX6_ok nmX6 0 rfl rfl 10 (by decide) q1066 rfl rfl rfl rfl (Nat.le_of_ble_eq_true rfl) (Xq := MW (sg_dA Γ) ho a (ms_s σ 10 ((σ.1 10) ||| ((1 : Int32) <<< ((σ.2 2 j1) &&& 31))))) rfl dX6_lay_147 ?_
        refine sv_aload_n hC dX6_lay_150 3 rfl rfl ?_
        refine sv_get hC in_X6 0 rfl rfl 11 (by decide) q1067 rfl (v := .ref (a 11)) rfl dX6_lay_151 ?_
        refine sv_iload_n hC dX6_lay_154 2 rfl rfl ?_
        refine sv_iload_n hC dX6_lay_155 1 rfl rfl ?_
        obtain ⟨j13, ej13, h⟩ := sv_ob h
        refine sv_iast hC 7 (f := σ.2 11) rfl rfl (j := j13) ej13 (Xq := MW (sg_dA Γ) ho a (ms_a (ms_s σ 10 ((σ.1 10) ||| ((1 : Int32) <<< ((σ.2 2 j1) &&& 31)))) 11 j13 (σ.2 2 j2))) rfl dX6_lay_156 ?_
        refine sv_aload_n hC dX6_lay_157 3 rfl rfl ?_
        refine sv_get hC in_X6 0 rfl rfl 12 (by decide) q1068 rfl (v := .ref (a 12)) rfl dX6_lay_158 ?_
        refine sv_iload_n hC dX6_lay_161 2 rfl rfl ?_
        refine sv_iload hC dX6_lay_162 0 rfl ?_
        obtain ⟨j14, ej14, h⟩ := sv_ob h
        refine sv_iast hC 8 (f := σ.2 12) rfl rfl (j := j14) ej14 (Xq := MW (sg_dA Γ) ho a (ms_a (ms_a (ms_s σ 10 ((σ.1 10) ||| ((1 : Int32) <<< ((σ.2 2 j1) &&& 31)))) 11 j13 (σ.2 2 j2)) 12 j14 (σ.2 2 j3))) rfl dX6_lay_164 ?_
        exact sv_vret hC hQ dX6_lay_165 (by have e := Option.some.inj h; subst e; exact ⟨rfl, rfl⟩)
      · have h := sv_if c12 h
        by_cases c15 : σ.2 2 j4 = 3
        · have h := sv_it c15 h
          refine sv_tabIn hC (tgt := 166) dX6_lay_34 3 c15 (by decide) (by decide) rfl (by decide) ?_
          refine sv_aload_n hC dX6_lay_166 3 rfl rfl ?_
          refine sv_iload_n hC dX6_lay_167 2 rfl rfl ?_
          refine sv_put hC in_X6 tyX6 tyX6_ok nmX6 0 rfl rfl 13 (by decide) q1069 rfl rfl rfl rfl (Nat.le_of_ble_eq_true rfl) (Xq := MW (sg_dA Γ) ho a (ms_s σ 13 (σ.2 2 j1))) rfl dX6_lay_168 ?_
          exact sv_vret hC hQ dX6_lay_171 (by have e := Option.some.inj h; subst e; exact ⟨rfl, rfl⟩)
        · have h := sv_if c15 h
          by_cases c16 : σ.2 2 j4 = 4
          · have h := sv_it c16 h
            refine sv_tabIn hC (tgt := 172) dX6_lay_34 4 c16 (by decide) (by decide) rfl (by decide) ?_
            refine sv_aload_n hC dX6_lay_172 3 rfl rfl ?_
            refine sv_iload_n hC dX6_lay_173 2 rfl rfl ?_
            refine sv_put hC in_X6 tyX6 tyX6_ok nmX6 0 rfl rfl 14 (by decide) q1070 rfl rfl rfl rfl (Nat.le_of_ble_eq_true rfl) (Xq := MW (sg_dA Γ) ho a (ms_s σ 14 (σ.2 2 j1))) rfl dX6_lay_174 ?_
            exact sv_vret hC hQ dX6_lay_177 (by have e := Option.some.inj h; subst e; exact ⟨rfl, rfl⟩)
          · have h := sv_if c16 h
            by_cases c17 : σ.2 2 j4 = 5
            · have h := sv_it c17 h
              refine sv_tabIn hC (tgt := 178) dX6_lay_34 5 c17 (by decide) (by decide) rfl (by decide) ?_
              refine sv_aload_n hC dX6_lay_178 3 rfl rfl ?_
              refine sv_iload_n hC dX6_lay_179 2 rfl rfl ?_
              refine sv_put hC in_X6 tyX6 tyX6_ok nmX6 0 rfl rfl 15 (by decide) q1071 rfl rfl rfl rfl (Nat.le_of_ble_eq_true rfl) (Xq := MW (sg_dA Γ) ho a (ms_s σ 15 (σ.2 2 j1))) rfl dX6_lay_180 ?_
              exact sv_vret hC hQ dX6_lay_183 (by have e := Option.some.inj h; subst e; exact ⟨rfl, rfl⟩)
            · have h := sv_if c17 h
              by_cases c18 : σ.2 2 j4 = 6
              · have h := sv_it c18 h
                refine sv_tabIn hC (tgt := 184) dX6_lay_34 6 c18 (by decide) (by decide) rfl (by decide) ?_
                refine sv_aload_n hC dX6_lay_184 3 rfl rfl ?_
                refine sv_iload_n hC dX6_lay_185 2 rfl rfl ?_
                refine sv_put hC in_X6 tyX6 tyX6_ok nmX6 0 rfl rfl 16 (by decide) q1072 rfl rfl rfl rfl (Nat.le_of_ble_eq_true rfl) (Xq := MW (sg_dA Γ) ho a (ms_s σ 16 (σ.2 2 j1))) rfl dX6_lay_186 ?_
                exact sv_vret hC hQ dX6_lay_189 (by have e := Option.some.inj h; subst e; exact ⟨rfl, rfl⟩)
              · have h := sv_if c18 h
                have hso : (σ.2 2 j4).toInt < 0 ∨ ((6 : Nat) : Int) < (σ.2 2 j4).toInt := sv_swOut (N := 6) (by decide) (fun j hj => by
                  rcases (show j = 0 ∨ j = 1 ∨ j = 2 ∨ j = 3 ∨ j = 4 ∨ j = 5 ∨ j = 6 by omega) with rfl | rfl | rfl | rfl | rfl | rfl | rfl
                  · exact c5
                  · exact c10
                  · exact c12
                  · exact c15
                  · exact c16
                  · exact c17
                  · exact c18)
                refine sv_tabOut hC (tgt := 190) dX6_lay_34 hso (by decide) ?_
                refine sv_aload_n hC dX6_lay_190 3 rfl rfl ?_
                refine sv_dup hC dX6_lay_191 rfl ?_
                refine sv_get hC in_X6 0 rfl rfl 4 (by decide) q1060 rfl (v := .int (σ.1 4)) rfl dX6_lay_192 ?_
                refine sv_iconst hC (v := 1) dX6_lay_195 (by decide) ?_
                refine sv_iload_n hC dX6_lay_196 2 rfl rfl ?_
                refine sv_ishl hC dX6_lay_197 ?_
                refine sv_iconst hC (v := (-1)) dX6_lay_198 (by decide) ?_
                refine sv_ixor hC dX6_lay_199 ?_
                refine sv_iand hC dX6_lay_200 ?_
                refine sv_put hC in_X6 tyX6 tyX6_ok nmX6 0 rfl rfl 4 (by decide) q1060 rfl rfl rfl rfl (Nat.le_of_ble_eq_true rfl) (Xq := MW (sg_dA Γ) ho a (ms_s σ 4 ((σ.1 4) &&& (((1 : Int32) <<< ((σ.2 2 j1) &&& 31)) ^^^ (-1))))) rfl dX6_lay_201 ?_
                exact sv_vret hC hQ dX6_lay_204 (by have e := Option.some.inj h; subst e; exact ⟨rfl, rfl⟩)
set_option maxHeartbeats 2000000 in
theorem met_md_lay {l : Launch} {s0 : State} {D : va_G} {dA : Nat → ClassId} (hF : sv_F s0 D dA) (ho : Nat) (a : Nat → Nat) (x1 : Int32) (σ : MSt) {r0 : MSt} (h : md_lay x1 σ = some r0) : sv_M l s0 D yX6_lay cX6_lay 5 none rm_X6_lay [.ref ho, .int x1] (MW dA ho a σ) (sv_pV (MW dA ho a r0)) :=
  sv_met hF (by decide) (Nat.le_of_ble_eq_true rfl) (fun Γ hC hQ hmn e1 e2 e3 e4 => by
    subst e1 e2 e3 e4
    exact wk_md_lay ho a hC hQ x1 σ h)
set_option maxHeartbeats 2000000 in
theorem wk_md_farm_13b {Γ : sv_G} (ho : Nat) (a : Nat → Nat) (hC : sv_C Γ cX6_farm 2 RX6 (some .int) rm_X6_farm) {r0 : Int32 × MSt} (hQ : sv_RQ Γ (sv_pI r0.1 (MW (sg_dA Γ) ho a r0.2)) 0 0)  (rk_13 : Int32 → MSt → Option (Int32 × MSt)) (hk_13 : ∀ (x1 : Int32) (σ : MSt), rk_13 x1 σ = some r0 → sv_V Γ (MW (sg_dA Γ) ho a σ) 0 0 13 [(0, .ref ho), (1, .int x1)] []) (x1 : Int32) (σ : MSt)  (h : md_farm_13b rk_13 x1 σ = some r0) : sv_V Γ (MW (sg_dA Γ) ho a σ) 0 0 13 [(0, .ref ho), (1, .int x1)] [] := by
  unfold md_farm_13b at h
  refine sv_iload_n hC dX6_farm_13 1 rfl rfl ?_
  refine sv_aload_n hC dX6_farm_14 0 rfl rfl ?_
  refine sv_get hC in_X6 0 rfl rfl 3 (by decide) q1059 rfl (v := .int (σ.1 3)) rfl dX6_farm_15 ?_
  refine sv_icmp_ge hC (tgt := 34) dX6_farm_18 (by decide) (fun c3 => ?_) (fun c3 => ?_)
  · have h := sv_it c3 h
    refine sv_aload_n hC dX6_farm_34 0 rfl rfl ?_
    refine sv_iconst hC (v := 0) dX6_farm_35 (by decide) ?_
    refine sv_put hC in_X6 tyX6 tyX6_ok nmX6 0 rfl rfl 1 (by decide) q1057 rfl rfl rfl rfl (Nat.le_of_ble_eq_true rfl) (Xq := MW (sg_dA Γ) ho a (ms_s σ 1 0)) rfl dX6_farm_36 ?_
    refine sv_aload_n hC dX6_farm_39 0 rfl rfl ?_
    refine sv_get hC in_X6 0 rfl rfl 3 (by decide) q1059 rfl (v := .int (σ.1 3)) rfl dX6_farm_40 ?_
    exact sv_iret hC hQ dX6_farm_43 (by have e := Option.some.inj h; subst e; exact ⟨rfl, rfl⟩)
  · have h := sv_if c3 h
    refine sv_aload_n hC dX6_farm_21 0 rfl rfl ?_
    refine sv_iconst hC (v := 5) dX6_farm_22 (by decide) ?_
    refine sv_iload_n hC dX6_farm_23 1 rfl rfl ?_
    refine sv_imul hC dX6_farm_24 ?_
    obtain ⟨s4, es4, h⟩ := sv_ob h
    refine sv_wVv (nn := 1) hC (met_md_lay hC.F ho a (5 * x1) σ es4) 0 0 rfl rfl rfl (lw_V q1230 q1232 qs29 q62 q1233) (by decide +kernel) ⟨by decide, by decide⟩ ⟨rfl, rfl⟩ rfl rfl (Nat.le_of_ble_eq_true rfl) ⟨Nat.le_refl 0, Nat.le_refl 0⟩ dX6_farm_25 ?_
    refine sv_iinc hC (v := x1 + 1) dX6_farm_28 1 rfl rfl (by decide) (lvq := [(1, .int (x1 + 1)), (0, .ref ho)]) rfl ?_
    refine sv_goto hC (tgt := 13) dX6_farm_31 (by decide) ?_
    refine sv_loc [1, 0] (lvq := [(0, .ref ho), (1, .int (x1 + 1))]) rfl ?_
    exact hk_13 (x1 + 1) s4 h
set_option maxHeartbeats 2000000 in
theorem wk_md_farm_13 {Γ : sv_G} (ho : Nat) (a : Nat → Nat) (hC : sv_C Γ cX6_farm 2 RX6 (some .int) rm_X6_farm) {r0 : Int32 × MSt} (hQ : sv_RQ Γ (sv_pI r0.1 (MW (sg_dA Γ) ho a r0.2)) 0 0)  : ∀ (n : Nat) (x1 : Int32) (σ : MSt)  (h : md_farm_13 n x1 σ = some r0), sv_V Γ (MW (sg_dA Γ) ho a σ) 0 0 13 [(0, .ref ho), (1, .int x1)] [] := by
  intro n
  induction n with
  | zero => intro x1 σ h; cases h
  | succ n ih => intro x1 σ h; exact wk_md_farm_13b ho a hC hQ (md_farm_13 n) ih x1 σ h
set_option maxHeartbeats 2000000 in
theorem wk_md_farm {Γ : sv_G} (ho : Nat) (a : Nat → Nat) (hC : sv_C Γ cX6_farm 2 RX6 (some .int) rm_X6_farm) {r0 : Int32 × MSt} (hQ : sv_RQ Γ (sv_pI r0.1 (MW (sg_dA Γ) ho a r0.2)) 0 0) (σ : MSt) (h : md_farm σ = some r0) : sv_V Γ (MW (sg_dA Γ) ho a σ) 0 0 0 [(0, .ref ho)] [] := by
  unfold md_farm at h
  refine sv_aload_n hC dX6_farm_0 0 rfl rfl ?_
  obtain ⟨p1, ep1, h⟩ := sv_ob h
  refine sv_wVi (nn := 0) hC (met_md_fault hC.F ho a σ ep1) 0 0 rfl rfl rfl (lw_V q1229 q1191 q1192 q62 q1193) (by decide +kernel) ⟨by decide, by decide⟩ ⟨rfl, rfl⟩ rfl rfl (Nat.le_of_ble_eq_true rfl) ⟨Nat.le_refl 0, Nat.le_refl 0⟩ dX6_farm_1 ?_
  refine sv_iconst hC (v := (-1)) dX6_farm_4 (by decide) ?_
  refine sv_icmp_eq hC (tgt := 11) dX6_farm_5 (by decide) (fun c2 => ?_) (fun c2 => ?_)
  · have h := sv_it c2 h
    refine sv_iconst hC (v := 0) dX6_farm_11 (by decide) ?_
    refine sv_istore_n hC dX6_farm_12 rfl (by decide) (lvq := [(1, .int 0), (0, .ref ho)]) rfl ?_
    refine sv_loc [1, 0] (lvq := [(0, .ref ho), (1, .int 0)]) rfl ?_
    exact wk_md_farm_13 ho a hC hQ sv_FU 0 p1.2 h
  · have h := sv_if c2 h
    refine sv_bipush hC (v := (-4)) dX6_farm_8 (by decide) ?_
    exact sv_iret hC hQ dX6_farm_10 (by have e := Option.some.inj h; subst e; exact ⟨rfl, rfl⟩)
set_option maxHeartbeats 2000000 in
theorem met_md_farm {l : Launch} {s0 : State} {D : va_G} {dA : Nat → ClassId} (hF : sv_F s0 D dA) (ho : Nat) (a : Nat → Nat) (σ : MSt) {r0 : Int32 × MSt} (h : md_farm σ = some r0) : sv_M l s0 D yX6_farm cX6_farm 2 (some .int) rm_X6_farm [.ref ho] (MW dA ho a σ) (sv_pI r0.1 (MW dA ho a r0.2)) :=
  sv_met hF (by decide) (Nat.le_of_ble_eq_true rfl) (fun Γ hC hQ hmn e1 e2 e3 e4 => by
    subst e1 e2 e3 e4
    exact wk_md_farm ho a hC hQ σ h)
set_option maxHeartbeats 2000000 in
theorem wk_md_has {Γ : sv_G}  (hC : sv_C Γ cX6_has 2 RX6 (some .boolean) rm_X6_has) {r0 : Int32} (hQ : sv_RQ Γ (sv_pI r0 []) 0 0) (x0 : Int32) (x1 : Int32) (h : md_has x0 x1 = some r0) : sv_V Γ ([]) 0 0 0 [(0, .int x0), (1, .int x1)] [] := by
  unfold md_has at h
  refine sv_iload_n hC dX6_has_0 0 rfl rfl ?_
  refine sv_iload_n hC dX6_has_1 1 rfl rfl ?_
  refine sv_ishr hC dX6_has_2 ?_
  refine sv_iconst hC (v := 1) dX6_has_3 (by decide) ?_
  refine sv_iand hC dX6_has_4 ?_
  refine sv_iconst hC (v := 1) dX6_has_5 (by decide) ?_
  refine sv_icmp_ne hC (tgt := 13) dX6_has_6 (by decide) (fun c1 => ?_) (fun c1 => ?_)
  · have h := sv_if c1 h
    refine sv_iconst hC (v := 0) dX6_has_13 (by decide) ?_
    exact sv_zret hC hQ dX6_has_14 rfl (by have e := Option.some.inj h; subst e; exact ⟨rfl, rfl⟩)
  · have h := sv_it c1 h
    refine sv_iconst hC (v := 1) dX6_has_9 (by decide) ?_
    refine sv_goto hC (tgt := 14) dX6_has_10 (by decide) ?_
    exact sv_zret hC hQ dX6_has_14 rfl (by have e := Option.some.inj h; subst e; exact ⟨rfl, rfl⟩)
set_option maxHeartbeats 2000000 in
theorem met_md_has {l : Launch} {s0 : State} {D : va_G} {dA : Nat → ClassId} (hF : sv_F s0 D dA)  (x0 : Int32) (x1 : Int32) {r0 : Int32} (h : md_has x0 x1 = some r0) : sv_M l s0 D yX6_has cX6_has 2 (some .boolean) rm_X6_has [.int x0, .int x1] ([]) (sv_pI r0 []) :=
  sv_met hF (by decide) (Nat.le_of_ble_eq_true rfl) (fun Γ hC hQ hmn e1 e2 e3 e4 => by
    subst e1 e2 e3 e4
    exact wk_md_has hC hQ x0 x1 h)
set_option maxHeartbeats 2000000 in
theorem wk_md_isField {Γ : sv_G} (ho : Nat) (a : Nat → Nat) (σ : MSt) (hC : sv_C Γ cX6_isField 2 RX6 (some .boolean) rm_X6_isField) {r0 : Int32} (hQ : sv_RQ Γ (sv_pI r0 (MW (sg_dA Γ) ho a σ)) 0 0) (x1 : Int32) (h : md_isField σ x1 = some r0) : sv_V Γ (MW (sg_dA Γ) ho a σ) 0 0 0 [(0, .ref ho), (1, .int x1)] [] := by
  unfold md_isField at h
  refine sv_iload_n hC dX6_isField_0 1 rfl rfl ?_
  refine sv_i2l hC dX6_isField_1 ?_
  refine sv_lconst hC (v := 0) dX6_isField_2 (by decide) ?_
  refine sv_ldc2 hC dX6_isField_3 q1242 ?_
  obtain ⟨r1, er1, h⟩ := sv_ob h
  refine sv_pSi (nn := 3) hC (met_md_in hC.F x1.toInt64 0 3 er1) (lw_S q1182 q1183 q62 q1184) (by decide +kernel) ⟨by decide, by decide⟩ ⟨rfl, rfl⟩ rfl rfl (Nat.le_of_ble_eq_true rfl) ⟨Nat.le_refl 0, Nat.le_refl 0⟩ dX6_isField_6 ?_
  refine sv_if_eq hC (tgt := 27) dX6_isField_9 (by decide) (fun c2 => ?_) (fun c2 => ?_)
  · have h := sv_it c2 h
    refine sv_iconst hC (v := 0) dX6_isField_27 (by decide) ?_
    exact sv_zret hC hQ dX6_isField_28 rfl (by have e := Option.some.inj h; subst e; exact ⟨rfl, rfl⟩)
  · have h := sv_if c2 h
    refine sv_aload_n hC dX6_isField_12 0 rfl rfl ?_
    refine sv_get hC in_X6 0 rfl rfl 4 (by decide) q1060 rfl (v := .int (σ.1 4)) rfl dX6_isField_13 ?_
    refine sv_iload_n hC dX6_isField_16 1 rfl rfl ?_
    obtain ⟨r3, er3, h⟩ := sv_ob h
    refine sv_pSi (nn := 2) hC (met_md_has hC.F (σ.1 4) x1 er3) (lw_S q1243 q1244 q62 q1245) (by decide +kernel) ⟨by decide, by decide⟩ ⟨rfl, rfl⟩ rfl rfl (Nat.le_of_ble_eq_true rfl) ⟨Nat.le_refl 0, Nat.le_refl 0⟩ dX6_isField_17 ?_
    refine sv_if_eq hC (tgt := 27) dX6_isField_20 (by decide) (fun c4 => ?_) (fun c4 => ?_)
    · have h := sv_it c4 h
      refine sv_iconst hC (v := 0) dX6_isField_27 (by decide) ?_
      exact sv_zret hC hQ dX6_isField_28 rfl (by have e := Option.some.inj h; subst e; exact ⟨rfl, rfl⟩)
    · have h := sv_if c4 h
      refine sv_iconst hC (v := 1) dX6_isField_23 (by decide) ?_
      refine sv_goto hC (tgt := 28) dX6_isField_24 (by decide) ?_
      exact sv_zret hC hQ dX6_isField_28 rfl (by have e := Option.some.inj h; subst e; exact ⟨rfl, rfl⟩)
set_option maxHeartbeats 2000000 in
theorem met_md_isField {l : Launch} {s0 : State} {D : va_G} {dA : Nat → ClassId} (hF : sv_F s0 D dA) (ho : Nat) (a : Nat → Nat) (σ : MSt) (x1 : Int32) {r0 : Int32} (h : md_isField σ x1 = some r0) : sv_M l s0 D yX6_isField cX6_isField 2 (some .boolean) rm_X6_isField [.ref ho, .int x1] (MW dA ho a σ) (sv_pI r0 (MW dA ho a σ)) :=
  sv_met hF (by decide) (Nat.le_of_ble_eq_true rfl) (fun Γ hC hQ hmn e1 e2 e3 e4 => by
    subst e1 e2 e3 e4
    exact wk_md_isField ho a σ hC hQ x1 h)
set_option maxHeartbeats 2000000 in
theorem wk_md_field {Γ : sv_G} (ho : Nat) (a : Nat → Nat) (σ : MSt) (hC : sv_C Γ cX6_field 3 RX6 (some .int) rm_X6_field) {r0 : Int32} (hQ : sv_RQ Γ (sv_pI r0 (MW (sg_dA Γ) ho a σ)) 0 0) (x1 : Int32) (x2 : Int32) (h : md_field σ x1 x2 = some r0) : sv_V Γ (MW (sg_dA Γ) ho a σ) 0 0 0 [(0, .ref ho), (1, .int x1), (2, .int x2)] [] := by
  unfold md_field at h
  refine sv_aload_n hC dX6_field_0 0 rfl rfl ?_
  refine sv_iload_n hC dX6_field_1 1 rfl rfl ?_
  obtain ⟨r1, er1, h⟩ := sv_ob h
  refine sv_wVi (nn := 1) hC (met_md_isField hC.F ho a σ x1 er1) 0 0 rfl rfl rfl (lw_V q1238 q1240 qs30 q62 q1241) (by decide +kernel) ⟨by decide, by decide⟩ ⟨rfl, rfl⟩ rfl rfl (Nat.le_of_ble_eq_true rfl) ⟨Nat.le_refl 0, Nat.le_refl 0⟩ dX6_field_2 ?_
  refine sv_if_ne hC (tgt := 11) dX6_field_5 (by decide) (fun c2 => ?_) (fun c2 => ?_)
  · have h := sv_if c2 h
    refine sv_iload_n hC dX6_field_11 2 rfl rfl ?_
    refine sv_if_ne hC (tgt := 24) dX6_field_12 (by decide) (fun c3 => ?_) (fun c3 => ?_)
    · have h := sv_if c3 h
      refine sv_iload_n hC dX6_field_24 2 rfl rfl ?_
      refine sv_iconst hC (v := 1) dX6_field_25 (by decide) ?_
      refine sv_icmp_ne hC (tgt := 38) dX6_field_26 (by decide) (fun c4 => ?_) (fun c4 => ?_)
      · have h := sv_if c4 h
        refine sv_iload_n hC dX6_field_38 2 rfl rfl ?_
        refine sv_iconst hC (v := 2) dX6_field_39 (by decide) ?_
        refine sv_icmp_ne hC (tgt := 52) dX6_field_40 (by decide) (fun c5 => ?_) (fun c5 => ?_)
        · have h := sv_if c5 h
          refine sv_bipush hC (v := (-3)) dX6_field_52 (by decide) ?_
          exact sv_iret hC hQ dX6_field_54 (by have e := Option.some.inj h; subst e; exact ⟨rfl, rfl⟩)
        · have h := sv_it c5 h
          refine sv_aload_n hC dX6_field_43 0 rfl rfl ?_
          refine sv_get hC in_X6 0 rfl rfl 7 (by decide) q1063 rfl (v := .ref (a 7)) rfl dX6_field_44 ?_
          refine sv_iload_n hC dX6_field_47 1 rfl rfl ?_
          obtain ⟨j6, ej6, h⟩ := sv_ob h
          refine sv_iald hC 5 (f := σ.2 7) rfl rfl (j := j6) ej6 dX6_field_48 ?_
          refine sv_goto hC (tgt := 54) dX6_field_49 (by decide) ?_
          exact sv_iret hC hQ dX6_field_54 (by have e := Option.some.inj h; subst e; exact ⟨rfl, rfl⟩)
      · have h := sv_it c4 h
        refine sv_aload_n hC dX6_field_29 0 rfl rfl ?_
        refine sv_get hC in_X6 0 rfl rfl 6 (by decide) q1062 rfl (v := .ref (a 6)) rfl dX6_field_30 ?_
        refine sv_iload_n hC dX6_field_33 1 rfl rfl ?_
        obtain ⟨j7, ej7, h⟩ := sv_ob h
        refine sv_iald hC 4 (f := σ.2 6) rfl rfl (j := j7) ej7 dX6_field_34 ?_
        refine sv_goto hC (tgt := 54) dX6_field_35 (by decide) ?_
        exact sv_iret hC hQ dX6_field_54 (by have e := Option.some.inj h; subst e; exact ⟨rfl, rfl⟩)
    · have h := sv_it c3 h
      refine sv_aload_n hC dX6_field_15 0 rfl rfl ?_
      refine sv_get hC in_X6 0 rfl rfl 5 (by decide) q1061 rfl (v := .ref (a 5)) rfl dX6_field_16 ?_
      refine sv_iload_n hC dX6_field_19 1 rfl rfl ?_
      obtain ⟨j8, ej8, h⟩ := sv_ob h
      refine sv_iald hC 3 (f := σ.2 5) rfl rfl (j := j8) ej8 dX6_field_20 ?_
      refine sv_goto hC (tgt := 54) dX6_field_21 (by decide) ?_
      exact sv_iret hC hQ dX6_field_54 (by have e := Option.some.inj h; subst e; exact ⟨rfl, rfl⟩)
  · have h := sv_it c2 h
    refine sv_bipush hC (v := (-2)) dX6_field_8 (by decide) ?_
    exact sv_iret hC hQ dX6_field_10 (by have e := Option.some.inj h; subst e; exact ⟨rfl, rfl⟩)
set_option maxHeartbeats 2000000 in
theorem met_md_field {l : Launch} {s0 : State} {D : va_G} {dA : Nat → ClassId} (hF : sv_F s0 D dA) (ho : Nat) (a : Nat → Nat) (σ : MSt) (x1 : Int32) (x2 : Int32) {r0 : Int32} (h : md_field σ x1 x2 = some r0) : sv_M l s0 D yX6_field cX6_field 3 (some .int) rm_X6_field [.ref ho, .int x1, .int x2] (MW dA ho a σ) (sv_pI r0 (MW dA ho a σ)) :=
  sv_met hF (by decide) (Nat.le_of_ble_eq_true rfl) (fun Γ hC hQ hmn e1 e2 e3 e4 => by
    subst e1 e2 e3 e4
    exact wk_md_field ho a σ hC hQ x1 x2 h)
set_option maxHeartbeats 2000000 in
theorem wk_md_isFlock {Γ : sv_G} (ho : Nat) (a : Nat → Nat) (σ : MSt) (hC : sv_C Γ cX6_isFlock 2 RX6 (some .boolean) rm_X6_isFlock) {r0 : Int32} (hQ : sv_RQ Γ (sv_pI r0 (MW (sg_dA Γ) ho a σ)) 0 0) (x1 : Int32) (h : md_isFlock σ x1 = some r0) : sv_V Γ (MW (sg_dA Γ) ho a σ) 0 0 0 [(0, .ref ho), (1, .int x1)] [] := by
  unfold md_isFlock at h
  refine sv_iload_n hC dX6_isFlock_0 1 rfl rfl ?_
  refine sv_i2l hC dX6_isFlock_1 ?_
  refine sv_lconst hC (v := 0) dX6_isFlock_2 (by decide) ?_
  refine sv_ldc2 hC dX6_isFlock_3 q1242 ?_
  obtain ⟨r1, er1, h⟩ := sv_ob h
  refine sv_pSi (nn := 3) hC (met_md_in hC.F x1.toInt64 0 3 er1) (lw_S q1182 q1183 q62 q1184) (by decide +kernel) ⟨by decide, by decide⟩ ⟨rfl, rfl⟩ rfl rfl (Nat.le_of_ble_eq_true rfl) ⟨Nat.le_refl 0, Nat.le_refl 0⟩ dX6_isFlock_6 ?_
  refine sv_if_eq hC (tgt := 27) dX6_isFlock_9 (by decide) (fun c2 => ?_) (fun c2 => ?_)
  · have h := sv_it c2 h
    refine sv_iconst hC (v := 0) dX6_isFlock_27 (by decide) ?_
    exact sv_zret hC hQ dX6_isFlock_28 rfl (by have e := Option.some.inj h; subst e; exact ⟨rfl, rfl⟩)
  · have h := sv_if c2 h
    refine sv_aload_n hC dX6_isFlock_12 0 rfl rfl ?_
    refine sv_get hC in_X6 0 rfl rfl 8 (by decide) q1064 rfl (v := .int (σ.1 8)) rfl dX6_isFlock_13 ?_
    refine sv_iload_n hC dX6_isFlock_16 1 rfl rfl ?_
    obtain ⟨r3, er3, h⟩ := sv_ob h
    refine sv_pSi (nn := 2) hC (met_md_has hC.F (σ.1 8) x1 er3) (lw_S q1243 q1244 q62 q1245) (by decide +kernel) ⟨by decide, by decide⟩ ⟨rfl, rfl⟩ rfl rfl (Nat.le_of_ble_eq_true rfl) ⟨Nat.le_refl 0, Nat.le_refl 0⟩ dX6_isFlock_17 ?_
    refine sv_if_eq hC (tgt := 27) dX6_isFlock_20 (by decide) (fun c4 => ?_) (fun c4 => ?_)
    · have h := sv_it c4 h
      refine sv_iconst hC (v := 0) dX6_isFlock_27 (by decide) ?_
      exact sv_zret hC hQ dX6_isFlock_28 rfl (by have e := Option.some.inj h; subst e; exact ⟨rfl, rfl⟩)
    · have h := sv_if c4 h
      refine sv_iconst hC (v := 1) dX6_isFlock_23 (by decide) ?_
      refine sv_goto hC (tgt := 28) dX6_isFlock_24 (by decide) ?_
      exact sv_zret hC hQ dX6_isFlock_28 rfl (by have e := Option.some.inj h; subst e; exact ⟨rfl, rfl⟩)
set_option maxHeartbeats 2000000 in
theorem met_md_isFlock {l : Launch} {s0 : State} {D : va_G} {dA : Nat → ClassId} (hF : sv_F s0 D dA) (ho : Nat) (a : Nat → Nat) (σ : MSt) (x1 : Int32) {r0 : Int32} (h : md_isFlock σ x1 = some r0) : sv_M l s0 D yX6_isFlock cX6_isFlock 2 (some .boolean) rm_X6_isFlock [.ref ho, .int x1] (MW dA ho a σ) (sv_pI r0 (MW dA ho a σ)) :=
  sv_met hF (by decide) (Nat.le_of_ble_eq_true rfl) (fun Γ hC hQ hmn e1 e2 e3 e4 => by
    subst e1 e2 e3 e4
    exact wk_md_isFlock ho a σ hC hQ x1 h)
set_option maxHeartbeats 2000000 in
theorem wk_md_flock {Γ : sv_G} (ho : Nat) (a : Nat → Nat) (σ : MSt) (hC : sv_C Γ cX6_flock 2 RX6 (some .int) rm_X6_flock) {r0 : Int32} (hQ : sv_RQ Γ (sv_pI r0 (MW (sg_dA Γ) ho a σ)) 0 0) (x1 : Int32) (h : md_flock σ x1 = some r0) : sv_V Γ (MW (sg_dA Γ) ho a σ) 0 0 0 [(0, .ref ho), (1, .int x1)] [] := by
  unfold md_flock at h
  refine sv_aload_n hC dX6_flock_0 0 rfl rfl ?_
  refine sv_iload_n hC dX6_flock_1 1 rfl rfl ?_
  obtain ⟨r1, er1, h⟩ := sv_ob h
  refine sv_wVi (nn := 1) hC (met_md_isFlock hC.F ho a σ x1 er1) 0 0 rfl rfl rfl (lw_V q1250 q1252 qs31 q62 q1253) (by decide +kernel) ⟨by decide, by decide⟩ ⟨rfl, rfl⟩ rfl rfl (Nat.le_of_ble_eq_true rfl) ⟨Nat.le_refl 0, Nat.le_refl 0⟩ dX6_flock_2 ?_
  refine sv_if_eq hC (tgt := 17) dX6_flock_5 (by decide) (fun c2 => ?_) (fun c2 => ?_)
  · have h := sv_it c2 h
    refine sv_bipush hC (v := (-2)) dX6_flock_17 (by decide) ?_
    exact sv_iret hC hQ dX6_flock_19 (by have e := Option.some.inj h; subst e; exact ⟨rfl, rfl⟩)
  · have h := sv_if c2 h
    refine sv_aload_n hC dX6_flock_8 0 rfl rfl ?_
    refine sv_get hC in_X6 0 rfl rfl 9 (by decide) q1065 rfl (v := .ref (a 9)) rfl dX6_flock_9 ?_
    refine sv_iload_n hC dX6_flock_12 1 rfl rfl ?_
    obtain ⟨j3, ej3, h⟩ := sv_ob h
    refine sv_iald hC 6 (f := σ.2 9) rfl rfl (j := j3) ej3 dX6_flock_13 ?_
    refine sv_goto hC (tgt := 19) dX6_flock_14 (by decide) ?_
    exact sv_iret hC hQ dX6_flock_19 (by have e := Option.some.inj h; subst e; exact ⟨rfl, rfl⟩)
set_option maxHeartbeats 2000000 in
theorem met_md_flock {l : Launch} {s0 : State} {D : va_G} {dA : Nat → ClassId} (hF : sv_F s0 D dA) (ho : Nat) (a : Nat → Nat) (σ : MSt) (x1 : Int32) {r0 : Int32} (h : md_flock σ x1 = some r0) : sv_M l s0 D yX6_flock cX6_flock 2 (some .int) rm_X6_flock [.ref ho, .int x1] (MW dA ho a σ) (sv_pI r0 (MW dA ho a σ)) :=
  sv_met hF (by decide) (Nat.le_of_ble_eq_true rfl) (fun Γ hC hQ hmn e1 e2 e3 e4 => by
    subst e1 e2 e3 e4
    exact wk_md_flock ho a σ hC hQ x1 h)
set_option maxHeartbeats 2000000 in
theorem wk_md_isCoat {Γ : sv_G} (ho : Nat) (a : Nat → Nat) (σ : MSt) (hC : sv_C Γ cX6_isCoat 2 RX6 (some .boolean) rm_X6_isCoat) {r0 : Int32} (hQ : sv_RQ Γ (sv_pI r0 (MW (sg_dA Γ) ho a σ)) 0 0) (x1 : Int32) (h : md_isCoat σ x1 = some r0) : sv_V Γ (MW (sg_dA Γ) ho a σ) 0 0 0 [(0, .ref ho), (1, .int x1)] [] := by
  unfold md_isCoat at h
  refine sv_iload_n hC dX6_isCoat_0 1 rfl rfl ?_
  refine sv_i2l hC dX6_isCoat_1 ?_
  refine sv_lconst hC (v := 0) dX6_isCoat_2 (by decide) ?_
  refine sv_ldc2 hC dX6_isCoat_3 q1242 ?_
  obtain ⟨r1, er1, h⟩ := sv_ob h
  refine sv_pSi (nn := 3) hC (met_md_in hC.F x1.toInt64 0 3 er1) (lw_S q1182 q1183 q62 q1184) (by decide +kernel) ⟨by decide, by decide⟩ ⟨rfl, rfl⟩ rfl rfl (Nat.le_of_ble_eq_true rfl) ⟨Nat.le_refl 0, Nat.le_refl 0⟩ dX6_isCoat_6 ?_
  refine sv_if_eq hC (tgt := 27) dX6_isCoat_9 (by decide) (fun c2 => ?_) (fun c2 => ?_)
  · have h := sv_it c2 h
    refine sv_iconst hC (v := 0) dX6_isCoat_27 (by decide) ?_
    exact sv_zret hC hQ dX6_isCoat_28 rfl (by have e := Option.some.inj h; subst e; exact ⟨rfl, rfl⟩)
  · have h := sv_if c2 h
    refine sv_aload_n hC dX6_isCoat_12 0 rfl rfl ?_
    refine sv_get hC in_X6 0 rfl rfl 10 (by decide) q1066 rfl (v := .int (σ.1 10)) rfl dX6_isCoat_13 ?_
    refine sv_iload_n hC dX6_isCoat_16 1 rfl rfl ?_
    obtain ⟨r3, er3, h⟩ := sv_ob h
    refine sv_pSi (nn := 2) hC (met_md_has hC.F (σ.1 10) x1 er3) (lw_S q1243 q1244 q62 q1245) (by decide +kernel) ⟨by decide, by decide⟩ ⟨rfl, rfl⟩ rfl rfl (Nat.le_of_ble_eq_true rfl) ⟨Nat.le_refl 0, Nat.le_refl 0⟩ dX6_isCoat_17 ?_
    refine sv_if_eq hC (tgt := 27) dX6_isCoat_20 (by decide) (fun c4 => ?_) (fun c4 => ?_)
    · have h := sv_it c4 h
      refine sv_iconst hC (v := 0) dX6_isCoat_27 (by decide) ?_
      exact sv_zret hC hQ dX6_isCoat_28 rfl (by have e := Option.some.inj h; subst e; exact ⟨rfl, rfl⟩)
    · have h := sv_if c4 h
      refine sv_iconst hC (v := 1) dX6_isCoat_23 (by decide) ?_
      refine sv_goto hC (tgt := 28) dX6_isCoat_24 (by decide) ?_
      exact sv_zret hC hQ dX6_isCoat_28 rfl (by have e := Option.some.inj h; subst e; exact ⟨rfl, rfl⟩)
set_option maxHeartbeats 2000000 in
theorem met_md_isCoat {l : Launch} {s0 : State} {D : va_G} {dA : Nat → ClassId} (hF : sv_F s0 D dA) (ho : Nat) (a : Nat → Nat) (σ : MSt) (x1 : Int32) {r0 : Int32} (h : md_isCoat σ x1 = some r0) : sv_M l s0 D yX6_isCoat cX6_isCoat 2 (some .boolean) rm_X6_isCoat [.ref ho, .int x1] (MW dA ho a σ) (sv_pI r0 (MW dA ho a σ)) :=
  sv_met hF (by decide) (Nat.le_of_ble_eq_true rfl) (fun Γ hC hQ hmn e1 e2 e3 e4 => by
    subst e1 e2 e3 e4
    exact wk_md_isCoat ho a σ hC hQ x1 h)
set_option maxHeartbeats 2000000 in
theorem wk_md_coat {Γ : sv_G} (ho : Nat) (a : Nat → Nat) (σ : MSt) (hC : sv_C Γ cX6_coat 3 RX6 (some .int) rm_X6_coat) {r0 : Int32} (hQ : sv_RQ Γ (sv_pI r0 (MW (sg_dA Γ) ho a σ)) 0 0) (x1 : Int32) (x2 : Int32) (h : md_coat σ x1 x2 = some r0) : sv_V Γ (MW (sg_dA Γ) ho a σ) 0 0 0 [(0, .ref ho), (1, .int x1), (2, .int x2)] [] := by
  unfold md_coat at h
  refine sv_aload_n hC dX6_coat_0 0 rfl rfl ?_
  refine sv_iload_n hC dX6_coat_1 1 rfl rfl ?_
  obtain ⟨r1, er1, h⟩ := sv_ob h
  refine sv_wVi (nn := 1) hC (met_md_isCoat hC.F ho a σ x1 er1) 0 0 rfl rfl rfl (lw_V q1258 q1260 qs32 q62 q1261) (by decide +kernel) ⟨by decide, by decide⟩ ⟨rfl, rfl⟩ rfl rfl (Nat.le_of_ble_eq_true rfl) ⟨Nat.le_refl 0, Nat.le_refl 0⟩ dX6_coat_2 ?_
  refine sv_if_ne hC (tgt := 11) dX6_coat_5 (by decide) (fun c2 => ?_) (fun c2 => ?_)
  · have h := sv_if c2 h
    refine sv_iload_n hC dX6_coat_11 2 rfl rfl ?_
    refine sv_if_ne hC (tgt := 24) dX6_coat_12 (by decide) (fun c3 => ?_) (fun c3 => ?_)
    · have h := sv_if c3 h
      refine sv_iload_n hC dX6_coat_24 2 rfl rfl ?_
      refine sv_iconst hC (v := 1) dX6_coat_25 (by decide) ?_
      refine sv_icmp_ne hC (tgt := 38) dX6_coat_26 (by decide) (fun c4 => ?_) (fun c4 => ?_)
      · have h := sv_if c4 h
        refine sv_bipush hC (v := (-3)) dX6_coat_38 (by decide) ?_
        exact sv_iret hC hQ dX6_coat_40 (by have e := Option.some.inj h; subst e; exact ⟨rfl, rfl⟩)
      · have h := sv_it c4 h
        refine sv_aload_n hC dX6_coat_29 0 rfl rfl ?_
        refine sv_get hC in_X6 0 rfl rfl 12 (by decide) q1068 rfl (v := .ref (a 12)) rfl dX6_coat_30 ?_
        refine sv_iload_n hC dX6_coat_33 1 rfl rfl ?_
        obtain ⟨j5, ej5, h⟩ := sv_ob h
        refine sv_iald hC 8 (f := σ.2 12) rfl rfl (j := j5) ej5 dX6_coat_34 ?_
        refine sv_goto hC (tgt := 40) dX6_coat_35 (by decide) ?_
        exact sv_iret hC hQ dX6_coat_40 (by have e := Option.some.inj h; subst e; exact ⟨rfl, rfl⟩)
    · have h := sv_it c3 h
      refine sv_aload_n hC dX6_coat_15 0 rfl rfl ?_
      refine sv_get hC in_X6 0 rfl rfl 11 (by decide) q1067 rfl (v := .ref (a 11)) rfl dX6_coat_16 ?_
      refine sv_iload_n hC dX6_coat_19 1 rfl rfl ?_
      obtain ⟨j6, ej6, h⟩ := sv_ob h
      refine sv_iald hC 7 (f := σ.2 11) rfl rfl (j := j6) ej6 dX6_coat_20 ?_
      refine sv_goto hC (tgt := 40) dX6_coat_21 (by decide) ?_
      exact sv_iret hC hQ dX6_coat_40 (by have e := Option.some.inj h; subst e; exact ⟨rfl, rfl⟩)
  · have h := sv_it c2 h
    refine sv_bipush hC (v := (-2)) dX6_coat_8 (by decide) ?_
    exact sv_iret hC hQ dX6_coat_10 (by have e := Option.some.inj h; subst e; exact ⟨rfl, rfl⟩)
set_option maxHeartbeats 2000000 in
theorem met_md_coat {l : Launch} {s0 : State} {D : va_G} {dA : Nat → ClassId} (hF : sv_F s0 D dA) (ho : Nat) (a : Nat → Nat) (σ : MSt) (x1 : Int32) (x2 : Int32) {r0 : Int32} (h : md_coat σ x1 x2 = some r0) : sv_M l s0 D yX6_coat cX6_coat 3 (some .int) rm_X6_coat [.ref ho, .int x1, .int x2] (MW dA ho a σ) (sv_pI r0 (MW dA ho a σ)) :=
  sv_met hF (by decide) (Nat.le_of_ble_eq_true rfl) (fun Γ hC hQ hmn e1 e2 e3 e4 => by
    subst e1 e2 e3 e4
    exact wk_md_coat ho a σ hC hQ x1 x2 h)
set_option maxHeartbeats 2000000 in
theorem wk_md_place_44b {Γ : sv_G} (ho : Nat) (a : Nat → Nat) (hC : sv_C Γ cX6_place 5 RX6 (some .int) rm_X6_place) {r0 : Int32 × MSt} (hQ : sv_RQ Γ (sv_pI r0.1 (MW (sg_dA Γ) ho a r0.2)) 0 0)  (rk_44 : Int32 → Int32 → Int32 → Int32 → MSt → Option (Int32 × MSt)) (hk_44 : ∀ (x1 : Int32) (x2 : Int32) (x3 : Int32) (x4 : Int32) (σ : MSt), rk_44 x1 x2 x3 x4 σ = some r0 → sv_V Γ (MW (sg_dA Γ) ho a σ) 0 0 44 [(0, .ref ho), (1, .int x1), (2, .int x2), (3, .int x3), (4, .int x4)] []) (x1 : Int32) (x2 : Int32) (x3 : Int32) (x4 : Int32) (σ : MSt)  (h : md_place_44b rk_44 x1 x2 x3 x4 σ = some r0) : sv_V Γ (MW (sg_dA Γ) ho a σ) 0 0 44 [(0, .ref ho), (1, .int x1), (2, .int x2), (3, .int x3), (4, .int x4)] [] := by
  unfold md_place_44b at h
  refine sv_iload hC dX6_place_44 4 rfl ?_
  refine sv_iconst hC (v := 4) dX6_place_46 (by decide) ?_
  refine sv_icmp_ge hC (tgt := 87) dX6_place_47 (by decide) (fun c7 => ?_) (fun c7 => ?_)
  · have h := sv_it c7 h
    refine sv_aload_n hC dX6_place_87 0 rfl rfl ?_
    refine sv_get hC in_X6 0 rfl rfl 17 (by decide) q1073 rfl (v := .ref (a 17)) rfl dX6_place_88 ?_
    refine sv_iconst hC (v := 4) dX6_place_91 (by decide) ?_
    refine sv_iload_n hC dX6_place_92 1 rfl rfl ?_
    refine sv_imul hC dX6_place_93 ?_
    refine sv_iload_n hC dX6_place_94 2 rfl rfl ?_
    refine sv_iadd hC dX6_place_95 ?_
    obtain ⟨j8, ej8, h⟩ := sv_ob h
    refine sv_iald hC 9 (f := σ.2 17) rfl rfl (j := j8) ej8 dX6_place_96 ?_
    refine sv_iconst hC (v := 1) dX6_place_97 (by decide) ?_
    refine sv_isub hC dX6_place_98 ?_
    refine sv_istore hC dX6_place_99 (by decide) (lvq := [(4, .int ((σ.2 17 j8) - 1)), (0, .ref ho), (1, .int x1), (2, .int x2), (3, .int x3)]) rfl ?_
    refine sv_aload_n hC dX6_place_101 1 rfl rfl ?_
    refine sv_get hC in_X6 0 rfl rfl 17 (by decide) q1073 rfl (v := .ref (a 17)) rfl dX6_place_102 ?_
    refine sv_iconst hC (v := 4) dX6_place_105 (by decide) ?_
    refine sv_iload_n hC dX6_place_106 2 rfl rfl ?_
    refine sv_imul hC dX6_place_107 ?_
    refine sv_iload_n hC dX6_place_108 3 rfl rfl ?_
    refine sv_iadd hC dX6_place_109 ?_
    refine sv_iload_n hC dX6_place_110 4 rfl rfl ?_
    refine sv_iconst hC (v := 1) dX6_place_111 (by decide) ?_
    refine sv_iadd hC dX6_place_112 ?_
    obtain ⟨j9, ej9, h⟩ := sv_ob h
    refine sv_iast hC 9 (f := σ.2 17) rfl rfl (j := j9) ej9 (Xq := MW (sg_dA Γ) ho a (ms_a σ 17 j9 (x3 + 1))) rfl dX6_place_113 ?_
    refine sv_iload hC dX6_place_114 0 rfl ?_
    exact sv_iret hC hQ dX6_place_116 (by have e := Option.some.inj h; subst e; exact ⟨rfl, rfl⟩)
  · have h := sv_if c7 h
    refine sv_iload_n hC dX6_place_50 3 rfl rfl ?_
    refine sv_iconst hC (v := (-1)) dX6_place_51 (by decide) ?_
    refine sv_icmp_eq hC (tgt := 81) dX6_place_52 (by decide) (fun c10 => ?_) (fun c10 => ?_)
    · have h := sv_it c10 h
      refine sv_iinc hC (v := x4 + 1) dX6_place_81 4 rfl rfl (by decide) (lvq := [(4, .int (x4 + 1)), (0, .ref ho), (1, .int x1), (2, .int x2), (3, .int x3)]) rfl ?_
      refine sv_goto hC (tgt := 44) dX6_place_84 (by decide) ?_
      refine sv_loc [1, 2, 3, 4, 0] (lvq := [(0, .ref ho), (1, .int x1), (2, .int x2), (3, .int x3), (4, .int (x4 + 1))]) rfl ?_
      exact hk_44 x1 x2 x3 (x4 + 1) σ h
    · have h := sv_if c10 h
      refine sv_iload hC dX6_place_55 4 rfl ?_
      refine sv_iload_n hC dX6_place_57 2 rfl rfl ?_
      refine sv_icmp_eq hC (tgt := 81) dX6_place_58 (by decide) (fun c11 => ?_) (fun c11 => ?_)
      · have h := sv_it c11 h
        refine sv_iinc hC (v := x4 + 1) dX6_place_81 4 rfl rfl (by decide) (lvq := [(4, .int (x4 + 1)), (0, .ref ho), (1, .int x1), (2, .int x2), (3, .int x3)]) rfl ?_
        refine sv_goto hC (tgt := 44) dX6_place_84 (by decide) ?_
        refine sv_loc [1, 2, 3, 4, 0] (lvq := [(0, .ref ho), (1, .int x1), (2, .int x2), (3, .int x3), (4, .int (x4 + 1))]) rfl ?_
        exact hk_44 x1 x2 x3 (x4 + 1) σ h
      · have h := sv_if c11 h
        refine sv_aload_n hC dX6_place_61 0 rfl rfl ?_
        refine sv_get hC in_X6 0 rfl rfl 17 (by decide) q1073 rfl (v := .ref (a 17)) rfl dX6_place_62 ?_
        refine sv_iconst hC (v := 4) dX6_place_65 (by decide) ?_
        refine sv_iload_n hC dX6_place_66 1 rfl rfl ?_
        refine sv_imul hC dX6_place_67 ?_
        refine sv_iload hC dX6_place_68 4 rfl ?_
        refine sv_iadd hC dX6_place_70 ?_
        obtain ⟨j12, ej12, h⟩ := sv_ob h
        refine sv_iald hC 9 (f := σ.2 17) rfl rfl (j := j12) ej12 dX6_place_71 ?_
        refine sv_iload_n hC dX6_place_72 3 rfl rfl ?_
        refine sv_iconst hC (v := 1) dX6_place_73 (by decide) ?_
        refine sv_iadd hC dX6_place_74 ?_
        refine sv_icmp_ne hC (tgt := 81) dX6_place_75 (by decide) (fun c13 => ?_) (fun c13 => ?_)
        · have h := sv_if c13 h
          refine sv_iinc hC (v := x4 + 1) dX6_place_81 4 rfl rfl (by decide) (lvq := [(4, .int (x4 + 1)), (0, .ref ho), (1, .int x1), (2, .int x2), (3, .int x3)]) rfl ?_
          refine sv_goto hC (tgt := 44) dX6_place_84 (by decide) ?_
          refine sv_loc [1, 2, 3, 4, 0] (lvq := [(0, .ref ho), (1, .int x1), (2, .int x2), (3, .int x3), (4, .int (x4 + 1))]) rfl ?_
          exact hk_44 x1 x2 x3 (x4 + 1) σ h
        · have h := sv_it c13 h
          refine sv_bipush hC (v := (-4)) dX6_place_78 (by decide) ?_
          exact sv_iret hC hQ dX6_place_80 (by have e := Option.some.inj h; subst e; exact ⟨rfl, rfl⟩)
set_option maxHeartbeats 2000000 in
theorem wk_md_place_44 {Γ : sv_G} (ho : Nat) (a : Nat → Nat) (hC : sv_C Γ cX6_place 5 RX6 (some .int) rm_X6_place) {r0 : Int32 × MSt} (hQ : sv_RQ Γ (sv_pI r0.1 (MW (sg_dA Γ) ho a r0.2)) 0 0)  : ∀ (n : Nat) (x1 : Int32) (x2 : Int32) (x3 : Int32) (x4 : Int32) (σ : MSt)  (h : md_place_44 n x1 x2 x3 x4 σ = some r0), sv_V Γ (MW (sg_dA Γ) ho a σ) 0 0 44 [(0, .ref ho), (1, .int x1), (2, .int x2), (3, .int x3), (4, .int x4)] [] := by
  intro n
  induction n with
  | zero => intro x1 x2 x3 x4 σ h; cases h
  | succ n ih => intro x1 x2 x3 x4 σ h; exact wk_md_place_44b ho a hC hQ (md_place_44 n) ih x1 x2 x3 x4 σ h
set_option maxHeartbeats 2000000 in
theorem wk_md_place {Γ : sv_G} (ho : Nat) (a : Nat → Nat) (hC : sv_C Γ cX6_place 5 RX6 (some .int) rm_X6_place) {r0 : Int32 × MSt} (hQ : sv_RQ Γ (sv_pI r0.1 (MW (sg_dA Γ) ho a r0.2)) 0 0) (x1 : Int32) (x2 : Int32) (x3 : Int32) (σ : MSt) (h : md_place x1 x2 x3 σ = some r0) : sv_V Γ (MW (sg_dA Γ) ho a σ) 0 0 0 [(0, .ref ho), (1, .int x1), (2, .int x2), (3, .int x3)] [] := by
  unfold md_place at h
  refine sv_iload_n hC dX6_place_0 1 rfl rfl ?_
  refine sv_i2l hC dX6_place_1 ?_
  refine sv_lconst hC (v := 0) dX6_place_2 (by decide) ?_
  refine sv_ldc2 hC dX6_place_3 q1266 ?_
  obtain ⟨r1, er1, h⟩ := sv_ob h
  refine sv_pSi (nn := 3) hC (met_md_in hC.F x1.toInt64 0 20 er1) (lw_S q1182 q1183 q62 q1184) (by decide +kernel) ⟨by decide, by decide⟩ ⟨rfl, rfl⟩ rfl rfl (Nat.le_of_ble_eq_true rfl) ⟨Nat.le_refl 0, Nat.le_refl 0⟩ dX6_place_6 ?_
  refine sv_if_eq hC (tgt := 38) dX6_place_9 (by decide) (fun c2 => ?_) (fun c2 => ?_)
  · have h := sv_it c2 h
    refine sv_bipush hC (v := (-2)) dX6_place_38 (by decide) ?_
    exact sv_iret hC hQ dX6_place_40 (by have e := Option.some.inj h; subst e; exact ⟨rfl, rfl⟩)
  · have h := sv_if c2 h
    refine sv_iload_n hC dX6_place_12 2 rfl rfl ?_
    refine sv_i2l hC dX6_place_13 ?_
    refine sv_lconst hC (v := 0) dX6_place_14 (by decide) ?_
    refine sv_ldc2 hC dX6_place_15 q1242 ?_
    obtain ⟨r3, er3, h⟩ := sv_ob h
    refine sv_pSi (nn := 3) hC (met_md_in hC.F x2.toInt64 0 3 er3) (lw_S q1182 q1183 q62 q1184) (by decide +kernel) ⟨by decide, by decide⟩ ⟨rfl, rfl⟩ rfl rfl (Nat.le_of_ble_eq_true rfl) ⟨Nat.le_refl 0, Nat.le_refl 0⟩ dX6_place_18 ?_
    refine sv_if_eq hC (tgt := 38) dX6_place_21 (by decide) (fun c4 => ?_) (fun c4 => ?_)
    · have h := sv_it c4 h
      refine sv_bipush hC (v := (-2)) dX6_place_38 (by decide) ?_
      exact sv_iret hC hQ dX6_place_40 (by have e := Option.some.inj h; subst e; exact ⟨rfl, rfl⟩)
    · have h := sv_if c4 h
      refine sv_iload_n hC dX6_place_24 3 rfl rfl ?_
      refine sv_i2l hC dX6_place_25 ?_
      refine sv_ldc2 hC dX6_place_26 q1267 ?_
      refine sv_ldc2 hC dX6_place_29 q1242 ?_
      obtain ⟨r5, er5, h⟩ := sv_ob h
      refine sv_pSi (nn := 3) hC (met_md_in hC.F x3.toInt64 (-1) 3 er5) (lw_S q1182 q1183 q62 q1184) (by decide +kernel) ⟨by decide, by decide⟩ ⟨rfl, rfl⟩ rfl rfl (Nat.le_of_ble_eq_true rfl) ⟨Nat.le_refl 0, Nat.le_refl 0⟩ dX6_place_32 ?_
      refine sv_if_ne hC (tgt := 41) dX6_place_35 (by decide) (fun c6 => ?_) (fun c6 => ?_)
      · have h := sv_if c6 h
        refine sv_iconst hC (v := 0) dX6_place_41 (by decide) ?_
        refine sv_istore hC dX6_place_42 (by decide) (lvq := [(4, .int 0), (0, .ref ho), (1, .int x1), (2, .int x2), (3, .int x3)]) rfl ?_
        refine sv_loc [1, 2, 3, 4, 0] (lvq := [(0, .ref ho), (1, .int x1), (2, .int x2), (3, .int x3), (4, .int 0)]) rfl ?_
        exact wk_md_place_44 ho a hC hQ sv_FU x1 x2 x3 0 σ h
      · have h := sv_it c6 h
        refine sv_bipush hC (v := (-2)) dX6_place_38 (by decide) ?_
        exact sv_iret hC hQ dX6_place_40 (by have e := Option.some.inj h; subst e; exact ⟨rfl, rfl⟩)
set_option maxHeartbeats 2000000 in
theorem met_md_place {l : Launch} {s0 : State} {D : va_G} {dA : Nat → ClassId} (hF : sv_F s0 D dA) (ho : Nat) (a : Nat → Nat) (x1 : Int32) (x2 : Int32) (x3 : Int32) (σ : MSt) {r0 : Int32 × MSt} (h : md_place x1 x2 x3 σ = some r0) : sv_M l s0 D yX6_place cX6_place 5 (some .int) rm_X6_place [.ref ho, .int x1, .int x2, .int x3] (MW dA ho a σ) (sv_pI r0.1 (MW dA ho a r0.2)) :=
  sv_met hF (by decide) (Nat.le_of_ble_eq_true rfl) (fun Γ hC hQ hmn e1 e2 e3 e4 => by
    subst e1 e2 e3 e4
    exact wk_md_place ho a hC hQ x1 x2 x3 σ h)
set_option maxHeartbeats 2000000 in
theorem wk_md_real {Γ : sv_G} (ho : Nat) (a : Nat → Nat) (hC : sv_C Γ cX6_real 5 RX6 (some .int) rm_X6_real) {r0 : Int32 × MSt} (hQ : sv_RQ Γ (sv_pI r0.1 (MW (sg_dA Γ) ho a r0.2)) 0 0) (x1 : Int32) (x2 : Int32) (x3 : Int32) (σ : MSt) (h : md_real x1 x2 x3 σ = some r0) : sv_V Γ (MW (sg_dA Γ) ho a σ) 0 0 0 [(0, .ref ho), (1, .int x1), (2, .int x2), (3, .int x3)] [] := by
  unfold md_real at h
  refine sv_iload_n hC dX6_real_0 1 rfl rfl ?_
  refine sv_i2l hC dX6_real_1 ?_
  refine sv_lconst hC (v := 0) dX6_real_2 (by decide) ?_
  refine sv_ldc2 hC dX6_real_3 q1266 ?_
  obtain ⟨r1, er1, h⟩ := sv_ob h
  refine sv_pSi (nn := 3) hC (met_md_in hC.F x1.toInt64 0 20 er1) (lw_S q1182 q1183 q62 q1184) (by decide +kernel) ⟨by decide, by decide⟩ ⟨rfl, rfl⟩ rfl rfl (Nat.le_of_ble_eq_true rfl) ⟨Nat.le_refl 0, Nat.le_refl 0⟩ dX6_real_6 ?_
  refine sv_if_eq hC (tgt := 24) dX6_real_9 (by decide) (fun c2 => ?_) (fun c2 => ?_)
  · have h := sv_it c2 h
    refine sv_bipush hC (v := (-2)) dX6_real_24 (by decide) ?_
    exact sv_iret hC hQ dX6_real_26 (by have e := Option.some.inj h; subst e; exact ⟨rfl, rfl⟩)
  · have h := sv_if c2 h
    refine sv_iload_n hC dX6_real_12 2 rfl rfl ?_
    refine sv_i2l hC dX6_real_13 ?_
    refine sv_lconst hC (v := 0) dX6_real_14 (by decide) ?_
    refine sv_ldc2 hC dX6_real_15 q1242 ?_
    obtain ⟨r3, er3, h⟩ := sv_ob h
    refine sv_pSi (nn := 3) hC (met_md_in hC.F x2.toInt64 0 3 er3) (lw_S q1182 q1183 q62 q1184) (by decide +kernel) ⟨by decide, by decide⟩ ⟨rfl, rfl⟩ rfl rfl (Nat.le_of_ble_eq_true rfl) ⟨Nat.le_refl 0, Nat.le_refl 0⟩ dX6_real_18 ?_
    refine sv_if_ne hC (tgt := 27) dX6_real_21 (by decide) (fun c4 => ?_) (fun c4 => ?_)
    · have h := sv_if c4 h
      refine sv_aload_n hC dX6_real_27 0 rfl rfl ?_
      refine sv_get hC in_X6 0 rfl rfl 18 (by decide) q1074 rfl (v := .ref (a 18)) rfl dX6_real_28 ?_
      refine sv_iload_n hC dX6_real_31 1 rfl rfl ?_
      obtain ⟨j5, ej5, h⟩ := sv_ob h
      refine sv_iald hC 10 (f := σ.2 18) rfl rfl (j := j5) ej5 dX6_real_32 ?_
      refine sv_iload_n hC dX6_real_33 2 rfl rfl ?_
      refine sv_ishr hC dX6_real_34 ?_
      refine sv_iconst hC (v := 1) dX6_real_35 (by decide) ?_
      refine sv_iand hC dX6_real_36 ?_
      refine sv_istore hC dX6_real_37 (by decide) (lvq := [(4, .int (((σ.2 18 j5) >>> (x2 &&& 31)) &&& 1)), (0, .ref ho), (1, .int x1), (2, .int x2), (3, .int x3)]) rfl ?_
      refine sv_aload_n hC dX6_real_39 1 rfl rfl ?_
      refine sv_get hC in_X6 0 rfl rfl 18 (by decide) q1074 rfl (v := .ref (a 18)) rfl dX6_real_40 ?_
      refine sv_iload_n hC dX6_real_43 2 rfl rfl ?_
      refine sv_iload_n hC dX6_real_44 4 rfl rfl ?_
      refine sv_if_eq hC (tgt := 61) dX6_real_45 (by decide) (fun c6 => ?_) (fun c6 => ?_)
      · have h := sv_it c6 h
        refine sv_aload_n hC dX6_real_61 1 rfl rfl ?_
        refine sv_get hC in_X6 0 rfl rfl 18 (by decide) q1074 rfl (v := .ref (a 18)) rfl dX6_real_62 ?_
        refine sv_iload_n hC dX6_real_65 2 rfl rfl ?_
        obtain ⟨j7, ej7, h⟩ := sv_ob h
        refine sv_iald hC 10 (f := σ.2 18) rfl rfl (j := j7) ej7 dX6_real_66 ?_
        refine sv_iconst hC (v := 1) dX6_real_67 (by decide) ?_
        refine sv_iload_n hC dX6_real_68 3 rfl rfl ?_
        refine sv_ishl hC dX6_real_69 ?_
        refine sv_iconst hC (v := (-1)) dX6_real_70 (by decide) ?_
        refine sv_ixor hC dX6_real_71 ?_
        refine sv_iand hC dX6_real_72 ?_
        obtain ⟨j8, ej8, h⟩ := sv_ob h
        refine sv_iast hC 10 (f := σ.2 18) rfl rfl (j := j8) ej8 (Xq := MW (sg_dA Γ) ho a (ms_a σ 18 j8 ((σ.2 18 j7) &&& (((1 : Int32) <<< (x2 &&& 31)) ^^^ (-1))))) rfl dX6_real_73 ?_
        refine sv_iload hC dX6_real_74 0 rfl ?_
        exact sv_iret hC hQ dX6_real_76 (by have e := Option.some.inj h; subst e; exact ⟨rfl, rfl⟩)
      · have h := sv_if c6 h
        refine sv_aload_n hC dX6_real_48 1 rfl rfl ?_
        refine sv_get hC in_X6 0 rfl rfl 18 (by decide) q1074 rfl (v := .ref (a 18)) rfl dX6_real_49 ?_
        refine sv_iload_n hC dX6_real_52 2 rfl rfl ?_
        obtain ⟨j9, ej9, h⟩ := sv_ob h
        refine sv_iald hC 10 (f := σ.2 18) rfl rfl (j := j9) ej9 dX6_real_53 ?_
        refine sv_iconst hC (v := 1) dX6_real_54 (by decide) ?_
        refine sv_iload_n hC dX6_real_55 3 rfl rfl ?_
        refine sv_ishl hC dX6_real_56 ?_
        refine sv_ior hC dX6_real_57 ?_
        refine sv_goto hC (tgt := 73) dX6_real_58 (by decide) ?_
        obtain ⟨j10, ej10, h⟩ := sv_ob h
        refine sv_iast hC 10 (f := σ.2 18) rfl rfl (j := j10) ej10 (Xq := MW (sg_dA Γ) ho a (ms_a σ 18 j10 ((σ.2 18 j9) ||| ((1 : Int32) <<< (x2 &&& 31))))) rfl dX6_real_73 ?_
        refine sv_iload hC dX6_real_74 0 rfl ?_
        exact sv_iret hC hQ dX6_real_76 (by have e := Option.some.inj h; subst e; exact ⟨rfl, rfl⟩)
    · have h := sv_it c4 h
      refine sv_bipush hC (v := (-2)) dX6_real_24 (by decide) ?_
      exact sv_iret hC hQ dX6_real_26 (by have e := Option.some.inj h; subst e; exact ⟨rfl, rfl⟩)
set_option maxHeartbeats 2000000 in
theorem met_md_real {l : Launch} {s0 : State} {D : va_G} {dA : Nat → ClassId} (hF : sv_F s0 D dA) (ho : Nat) (a : Nat → Nat) (x1 : Int32) (x2 : Int32) (x3 : Int32) (σ : MSt) {r0 : Int32 × MSt} (h : md_real x1 x2 x3 σ = some r0) : sv_M l s0 D yX6_real cX6_real 5 (some .int) rm_X6_real [.ref ho, .int x1, .int x2, .int x3] (MW dA ho a σ) (sv_pI r0.1 (MW dA ho a r0.2)) :=
  sv_met hF (by decide) (Nat.le_of_ble_eq_true rfl) (fun Γ hC hQ hmn e1 e2 e3 e4 => by
    subst e1 e2 e3 e4
    exact wk_md_real ho a hC hQ x1 x2 x3 σ h)
set_option maxHeartbeats 2000000 in
theorem wk_md_isDay {Γ : sv_G} (ho : Nat) (a : Nat → Nat) (σ : MSt) (hC : sv_C Γ cX6_isDay 2 RX6 (some .boolean) rm_X6_isDay) {r0 : Int32} (hQ : sv_RQ Γ (sv_pI r0 (MW (sg_dA Γ) ho a σ)) 0 0) (x1 : Int32) (h : md_isDay σ x1 = some r0) : sv_V Γ (MW (sg_dA Γ) ho a σ) 0 0 0 [(0, .ref ho), (1, .int x1)] [] := by
  unfold md_isDay at h
  refine sv_iload_n hC dX6_isDay_0 1 rfl rfl ?_
  refine sv_i2l hC dX6_isDay_1 ?_
  refine sv_lconst hC (v := 0) dX6_isDay_2 (by decide) ?_
  refine sv_aload_n hC dX6_isDay_3 0 rfl rfl ?_
  refine sv_get hC in_X6 0 rfl rfl 16 (by decide) q1072 rfl (v := .int (σ.1 16)) rfl dX6_isDay_4 ?_
  refine sv_iconst hC (v := 1) dX6_isDay_7 (by decide) ?_
  refine sv_isub hC dX6_isDay_8 ?_
  refine sv_i2l hC dX6_isDay_9 ?_
  obtain ⟨r1, er1, h⟩ := sv_ob h
  refine sv_pSi (nn := 3) hC (met_md_in hC.F x1.toInt64 0 (((σ.1 16) - 1).toInt64) er1) (lw_S q1182 q1183 q62 q1184) (by decide +kernel) ⟨by decide, by decide⟩ ⟨rfl, rfl⟩ rfl rfl (Nat.le_of_ble_eq_true rfl) ⟨Nat.le_refl 0, Nat.le_refl 0⟩ dX6_isDay_10 ?_
  obtain ⟨b2, eb2, h⟩ := sv_ob h
  obtain ⟨e1, e2⟩ := sv_zb_n eb2
  subst e1
  exact sv_zret hC hQ dX6_isDay_13 e2 (by have e := Option.some.inj h; subst e; exact ⟨rfl, rfl⟩)
set_option maxHeartbeats 2000000 in
theorem met_md_isDay {l : Launch} {s0 : State} {D : va_G} {dA : Nat → ClassId} (hF : sv_F s0 D dA) (ho : Nat) (a : Nat → Nat) (σ : MSt) (x1 : Int32) {r0 : Int32} (h : md_isDay σ x1 = some r0) : sv_M l s0 D yX6_isDay cX6_isDay 2 (some .boolean) rm_X6_isDay [.ref ho, .int x1] (MW dA ho a σ) (sv_pI r0 (MW dA ho a σ)) :=
  sv_met hF (by decide) (Nat.le_of_ble_eq_true rfl) (fun Γ hC hQ hmn e1 e2 e3 e4 => by
    subst e1 e2 e3 e4
    exact wk_md_isDay ho a σ hC hQ x1 h)
set_option maxHeartbeats 2000000 in
theorem wk_md_asPlanned {Γ : sv_G} (ho : Nat) (a : Nat → Nat) (hC : sv_C Γ cX6_asPlanned 1 RX6 none rm_X6_asPlanned) {r0 : MSt} (hQ : sv_RQ Γ (sv_pV (MW (sg_dA Γ) ho a r0)) 0 0) (σ : MSt) (h : md_asPlanned σ = some r0) : sv_V Γ (MW (sg_dA Γ) ho a σ) 0 0 0 [(0, .ref ho)] [] := by
  unfold md_asPlanned at h
  refine sv_aload_n hC dX6_asPlanned_0 0 rfl rfl ?_
  refine sv_bipush hC (v := 15) dX6_asPlanned_1 (by decide) ?_
  refine sv_put hC in_X6 tyX6 tyX6_ok nmX6 0 rfl rfl 24 (by decide) q1080 rfl rfl rfl rfl (Nat.le_of_ble_eq_true rfl) (Xq := MW (sg_dA Γ) ho a (ms_s σ 24 15)) rfl dX6_asPlanned_3 ?_
  refine sv_aload_n hC dX6_asPlanned_6 0 rfl rfl ?_
  refine sv_iconst hC (v := (-1)) dX6_asPlanned_7 (by decide) ?_
  refine sv_put hC in_X6 tyX6 tyX6_ok nmX6 0 rfl rfl 25 (by decide) q1081 rfl rfl rfl rfl (Nat.le_of_ble_eq_true rfl) (Xq := MW (sg_dA Γ) ho a (ms_s (ms_s σ 24 15) 25 (-1))) rfl dX6_asPlanned_8 ?_
  refine sv_aload_n hC dX6_asPlanned_11 0 rfl rfl ?_
  refine sv_iconst hC (v := (-1)) dX6_asPlanned_12 (by decide) ?_
  refine sv_put hC in_X6 tyX6 tyX6_ok nmX6 0 rfl rfl 26 (by decide) q1082 rfl rfl rfl rfl (Nat.le_of_ble_eq_true rfl) (Xq := MW (sg_dA Γ) ho a (ms_s (ms_s (ms_s σ 24 15) 25 (-1)) 26 (-1))) rfl dX6_asPlanned_13 ?_
  refine sv_aload_n hC dX6_asPlanned_16 0 rfl rfl ?_
  refine sv_iconst hC (v := (-1)) dX6_asPlanned_17 (by decide) ?_
  refine sv_put hC in_X6 tyX6 tyX6_ok nmX6 0 rfl rfl 29 (by decide) q1085 rfl rfl rfl rfl (Nat.le_of_ble_eq_true rfl) (Xq := MW (sg_dA Γ) ho a (ms_s (ms_s (ms_s (ms_s σ 24 15) 25 (-1)) 26 (-1)) 29 (-1))) rfl dX6_asPlanned_18 ?_
  refine sv_aload_n hC dX6_asPlanned_21 0 rfl rfl ?_
  refine sv_ldc hC dX6_asPlanned_22 q1055 ?_
  refine sv_put hC in_X6 tyX6 tyX6_ok nmX6 0 rfl rfl 31 (by decide) q1087 rfl rfl rfl rfl (Nat.le_of_ble_eq_true rfl) (Xq := MW (sg_dA Γ) ho a (ms_s (ms_s (ms_s (ms_s (ms_s σ 24 15) 25 (-1)) 26 (-1)) 29 (-1)) 31 268435456)) rfl dX6_asPlanned_24 ?_
  exact sv_vret hC hQ dX6_asPlanned_27 (by have e := Option.some.inj h; subst e; exact ⟨rfl, rfl⟩)
set_option maxHeartbeats 2000000 in
theorem met_md_asPlanned {l : Launch} {s0 : State} {D : va_G} {dA : Nat → ClassId} (hF : sv_F s0 D dA) (ho : Nat) (a : Nat → Nat) (σ : MSt) {r0 : MSt} (h : md_asPlanned σ = some r0) : sv_M l s0 D yX6_asPlanned cX6_asPlanned 1 none rm_X6_asPlanned [.ref ho] (MW dA ho a σ) (sv_pV (MW dA ho a r0)) :=
  sv_met hF (by decide) (Nat.le_of_ble_eq_true rfl) (fun Γ hC hQ hmn e1 e2 e3 e4 => by
    subst e1 e2 e3 e4
    exact wk_md_asPlanned ho a hC hQ σ h)
set_option maxHeartbeats 2000000 in
theorem wk_md_begin_27b {Γ : sv_G} (ho : Nat) (a : Nat → Nat) (hC : sv_C Γ cX6_begin 2 RX6 none rm_X6_begin) {r0 : MSt} (hQ : sv_RQ Γ (sv_pV (MW (sg_dA Γ) ho a r0)) 0 0)  (rk_27 : Int32 → MSt → Option MSt) (hk_27 : ∀ (x1 : Int32) (σ : MSt), rk_27 x1 σ = some r0 → sv_V Γ (MW (sg_dA Γ) ho a σ) 0 0 27 [(0, .ref ho), (1, .int x1)] []) (x1 : Int32) (σ : MSt)  (h : md_begin_27b rk_27 x1 σ = some r0) : sv_V Γ (MW (sg_dA Γ) ho a σ) 0 0 27 [(0, .ref ho), (1, .int x1)] [] := by
  unfold md_begin_27b at h
  refine sv_iload_n hC dX6_begin_27 1 rfl rfl ?_
  refine sv_bipush hC (v := 16) dX6_begin_28 (by decide) ?_
  refine sv_icmp_ge hC (tgt := 53) dX6_begin_30 (by decide) (fun c4 => ?_) (fun c4 => ?_)
  · have h := sv_it c4 h
    exact sv_vret hC hQ dX6_begin_53 (by have e := Option.some.inj h; subst e; exact ⟨rfl, rfl⟩)
  · have h := sv_if c4 h
    refine sv_aload_n hC dX6_begin_33 0 rfl rfl ?_
    refine sv_get hC in_X6 0 rfl rfl 34 (by decide) q1090 rfl (v := .ref (a 34)) rfl dX6_begin_34 ?_
    refine sv_iload_n hC dX6_begin_37 1 rfl rfl ?_
    refine sv_aload_n hC dX6_begin_38 0 rfl rfl ?_
    refine sv_get hC in_X6 0 rfl rfl 11 (by decide) q1067 rfl (v := .ref (a 11)) rfl dX6_begin_39 ?_
    refine sv_iload_n hC dX6_begin_42 1 rfl rfl ?_
    refine sv_iconst hC (v := 4) dX6_begin_43 (by decide) ?_
    refine sv_irem hC dX6_begin_44 (by decide) ?_
    obtain ⟨j5, ej5, h⟩ := sv_ob h
    refine sv_iald hC 7 (f := σ.2 11) rfl rfl (j := j5) ej5 dX6_begin_45 ?_
    obtain ⟨j6, ej6, h⟩ := sv_ob h
    refine sv_iast hC 14 (f := σ.2 34) rfl rfl (j := j6) ej6 (Xq := MW (sg_dA Γ) ho a (ms_a σ 34 j6 (σ.2 11 j5))) rfl dX6_begin_46 ?_
    refine sv_iinc hC (v := x1 + 1) dX6_begin_47 1 rfl rfl (by decide) (lvq := [(1, .int (x1 + 1)), (0, .ref ho)]) rfl ?_
    refine sv_goto hC (tgt := 27) dX6_begin_50 (by decide) ?_
    refine sv_loc [1, 0] (lvq := [(0, .ref ho), (1, .int (x1 + 1))]) rfl ?_
    exact hk_27 (x1 + 1) (ms_a σ 34 j6 (σ.2 11 j5)) h
set_option maxHeartbeats 2000000 in
theorem wk_md_begin_27 {Γ : sv_G} (ho : Nat) (a : Nat → Nat) (hC : sv_C Γ cX6_begin 2 RX6 none rm_X6_begin) {r0 : MSt} (hQ : sv_RQ Γ (sv_pV (MW (sg_dA Γ) ho a r0)) 0 0)  : ∀ (n : Nat) (x1 : Int32) (σ : MSt)  (h : md_begin_27 n x1 σ = some r0), sv_V Γ (MW (sg_dA Γ) ho a σ) 0 0 27 [(0, .ref ho), (1, .int x1)] [] := by
  intro n
  induction n with
  | zero => intro x1 σ h; cases h
  | succ n ih => intro x1 σ h; exact wk_md_begin_27b ho a hC hQ (md_begin_27 n) ih x1 σ h
set_option maxHeartbeats 2000000 in
theorem wk_md_begin_2b {Γ : sv_G} (ho : Nat) (a : Nat → Nat) (hC : sv_C Γ cX6_begin 2 RX6 none rm_X6_begin) {r0 : MSt} (hQ : sv_RQ Γ (sv_pV (MW (sg_dA Γ) ho a r0)) 0 0)  (rk_2 : Int32 → MSt → Option MSt) (hk_2 : ∀ (x1 : Int32) (σ : MSt), rk_2 x1 σ = some r0 → sv_V Γ (MW (sg_dA Γ) ho a σ) 0 0 2 [(0, .ref ho), (1, .int x1)] []) (x1 : Int32) (σ : MSt)  (h : md_begin_2b rk_2 x1 σ = some r0) : sv_V Γ (MW (sg_dA Γ) ho a σ) 0 0 2 [(0, .ref ho), (1, .int x1)] [] := by
  unfold md_begin_2b at h
  refine sv_iload_n hC dX6_begin_2 1 rfl rfl ?_
  refine sv_iconst hC (v := 4) dX6_begin_3 (by decide) ?_
  refine sv_icmp_ge hC (tgt := 25) dX6_begin_4 (by decide) (fun c1 => ?_) (fun c1 => ?_)
  · have h := sv_it c1 h
    refine sv_iconst hC (v := 0) dX6_begin_25 (by decide) ?_
    refine sv_istore_n hC dX6_begin_26 rfl (by decide) (lvq := [(1, .int 0), (0, .ref ho)]) rfl ?_
    refine sv_loc [1, 0] (lvq := [(0, .ref ho), (1, .int 0)]) rfl ?_
    exact wk_md_begin_27 ho a hC hQ sv_FU 0 σ h
  · have h := sv_if c1 h
    refine sv_aload_n hC dX6_begin_7 0 rfl rfl ?_
    refine sv_get hC in_X6 0 rfl rfl 33 (by decide) q1089 rfl (v := .ref (a 33)) rfl dX6_begin_8 ?_
    refine sv_iload_n hC dX6_begin_11 1 rfl rfl ?_
    refine sv_aload_n hC dX6_begin_12 0 rfl rfl ?_
    refine sv_get hC in_X6 0 rfl rfl 5 (by decide) q1061 rfl (v := .ref (a 5)) rfl dX6_begin_13 ?_
    refine sv_iload_n hC dX6_begin_16 1 rfl rfl ?_
    obtain ⟨j2, ej2, h⟩ := sv_ob h
    refine sv_iald hC 3 (f := σ.2 5) rfl rfl (j := j2) ej2 dX6_begin_17 ?_
    obtain ⟨j3, ej3, h⟩ := sv_ob h
    refine sv_iast hC 13 (f := σ.2 33) rfl rfl (j := j3) ej3 (Xq := MW (sg_dA Γ) ho a (ms_a σ 33 j3 (σ.2 5 j2))) rfl dX6_begin_18 ?_
    refine sv_iinc hC (v := x1 + 1) dX6_begin_19 1 rfl rfl (by decide) (lvq := [(1, .int (x1 + 1)), (0, .ref ho)]) rfl ?_
    refine sv_goto hC (tgt := 2) dX6_begin_22 (by decide) ?_
    refine sv_loc [1, 0] (lvq := [(0, .ref ho), (1, .int (x1 + 1))]) rfl ?_
    exact hk_2 (x1 + 1) (ms_a σ 33 j3 (σ.2 5 j2)) h
set_option maxHeartbeats 2000000 in
theorem wk_md_begin_2 {Γ : sv_G} (ho : Nat) (a : Nat → Nat) (hC : sv_C Γ cX6_begin 2 RX6 none rm_X6_begin) {r0 : MSt} (hQ : sv_RQ Γ (sv_pV (MW (sg_dA Γ) ho a r0)) 0 0)  : ∀ (n : Nat) (x1 : Int32) (σ : MSt)  (h : md_begin_2 n x1 σ = some r0), sv_V Γ (MW (sg_dA Γ) ho a σ) 0 0 2 [(0, .ref ho), (1, .int x1)] [] := by
  intro n
  induction n with
  | zero => intro x1 σ h; cases h
  | succ n ih => intro x1 σ h; exact wk_md_begin_2b ho a hC hQ (md_begin_2 n) ih x1 σ h
set_option maxHeartbeats 2000000 in
theorem wk_md_begin {Γ : sv_G} (ho : Nat) (a : Nat → Nat) (hC : sv_C Γ cX6_begin 2 RX6 none rm_X6_begin) {r0 : MSt} (hQ : sv_RQ Γ (sv_pV (MW (sg_dA Γ) ho a r0)) 0 0) (σ : MSt) (h : md_begin σ = some r0) : sv_V Γ (MW (sg_dA Γ) ho a σ) 0 0 0 [(0, .ref ho)] [] := by
  unfold md_begin at h
  refine sv_iconst hC (v := 0) dX6_begin_0 (by decide) ?_
  refine sv_istore_n hC dX6_begin_1 rfl (by decide) (lvq := [(1, .int 0), (0, .ref ho)]) rfl ?_
  refine sv_loc [1, 0] (lvq := [(0, .ref ho), (1, .int 0)]) rfl ?_
  exact wk_md_begin_2 ho a hC hQ sv_FU 0 σ h
set_option maxHeartbeats 2000000 in
theorem met_md_begin {l : Launch} {s0 : State} {D : va_G} {dA : Nat → ClassId} (hF : sv_F s0 D dA) (ho : Nat) (a : Nat → Nat) (σ : MSt) {r0 : MSt} (h : md_begin σ = some r0) : sv_M l s0 D yX6_begin cX6_begin 2 none rm_X6_begin [.ref ho] (MW dA ho a σ) (sv_pV (MW dA ho a r0)) :=
  sv_met hF (by decide) (Nat.le_of_ble_eq_true rfl) (fun Γ hC hQ hmn e1 e2 e3 e4 => by
    subst e1 e2 e3 e4
    exact wk_md_begin ho a hC hQ σ h)
