/-! THE SYSTEM's METHODS AS FUNCTIONS (printed by gen_straw.py) -/
def xs_b (f : Nat → Int32) : Bool := (List.range 4).all (fun i => fits .byte (.int (f i)))
def xs_z (f : Nat → Int32) : Bool := (List.range 4).all (fun i => fits .boolean (.int (f i)))
theorem xs_bs {f : Nat → Int32} (h : xs_b f = true) : ∀ i, i < (4 : Int32).toNatClampNeg → fits .byte (.int (f ((0 : Int32).toNatClampNeg + i))) = true := fun i hi => by
  have h2 := List.all_eq_true.mp h i (List.mem_range.mpr hi)
  rw [show (0 : Int32).toNatClampNeg = 0 from rfl, Nat.zero_add]
  exact h2
theorem xs_zs {f : Nat → Int32} (h : xs_z f = true) : ∀ i, i < (4 : Int32).toNatClampNeg → fits .boolean (.int (f ((0 : Int32).toNatClampNeg + i))) = true := fun i hi => by
  have h2 := List.all_eq_true.mp h i (List.mem_range.mpr hi)
  rw [show (0 : Int32).toNatClampNeg = 0 from rfl, Nat.zero_add]
  exact h2
theorem lw_in5 {a b c d e : Cond} (ha : a ∈ lw_all) (hb : b ∈ lw_all) (hc : c ∈ lw_all) (hd : d ∈ lw_all) (he : e ∈ lw_all) : ∀ w ∈ [a, b, c, d, e], w ∈ lw_all := by
  intro w hw
  simp only [List.mem_cons, List.not_mem_nil, or_false] at hw
  rcases hw with rfl | rfl | rfl | rfl | rfl <;> assumption
theorem lw_in6 {a b c d e f : Cond} (ha : a ∈ lw_all) (hb : b ∈ lw_all) (hc : c ∈ lw_all) (hd : d ∈ lw_all) (he : e ∈ lw_all) (hf : f ∈ lw_all) : ∀ w ∈ [a, b, c, d, e, f], w ∈ lw_all := by
  intro w hw
  simp only [List.mem_cons, List.not_mem_nil, or_false] at hw
  rcases hw with rfl | rfl | rfl | rfl | rfl | rfl <;> assumption
abbrev rm_X0_in : Room := { frames := 0, cells := 0, slots := 0, locals := 0 }
def xdX0_in  (x0 : Int64) (x2 : Int64) (x4 : Int64) : Option Int32 :=
  if lg_cmp x0 x2 < 0 then
    some 0
  else
    if 0 < lg_cmp x0 x4 then
      some 0
    else
      some 1
abbrev rm_X0_write : Room := { frames := 1, cells := 0, slots := 0, locals := 25 }
def xdX0_write_35b (K : XK)  (rk_35 : Int64 → Int32 → Int32 → MSt → Option (Int32 × MSt)) (x1 : Int64) (x3 : Int32) (x4 : Int32) (σ : MSt) : Option (Int32 × MSt) :=
  if x3 ≤ x4 then
    some ((σ.1 14), σ)
  else
    (sv_ix (σ.1 14) 200).bind fun j5 =>
    rk_35 x1 x3 (x4 + 1) (ms_a (ms_s σ 14 ((σ.1 14) + 1)) 105 j5 (vp_nar .byte (((x1 >>> ((8 * x4).toInt64 &&& 63)).toInt32).toInt8.toInt32)))
def xdX0_write_35 (K : XK)  : Nat → Int64 → Int32 → Int32 → MSt → Option (Int32 × MSt)
  | 0, _, _, _, _ => none
  | n + 1, x1, x3, x4, σ => xdX0_write_35b K (xdX0_write_35 K n) x1 x3 x4 σ
def xdX0_write (K : XK) (x1 : Int64) (x3 : Int32) (σ : MSt) : Option (Int32 × MSt) :=
  (xdX0_in x3.toInt64 1 8).bind fun r1 =>
  if r1 = 0 then
    some ((-3), σ)
  else
    if (σ.1 14) + x3 ≤ 200 then
      xdX0_write_35 K sv_FU x1 x3 0 σ
    else
      some ((-5), σ)
abbrev rm_X0_erase : Room := { frames := 0, cells := 0, slots := 0, locals := 0 }
def xdX0_erase (K : XK) (σ : MSt) : Option (Int32 × MSt) :=
  some ((σ.1 14), (ms_s σ 14 0))
abbrev rm_X0_isField : Room := { frames := 1, cells := 0, slots := 0, locals := 25 }
def xdX0_isField (K : XK) (σ : MSt) (x1 : Int32) : Option Int32 :=
  (xdX0_in x1.toInt64 0 3).bind fun r1 =>
  if r1 = 0 then
    some 0
  else
    (sv_ix x1 4).bind fun j3 =>
    if K.1 j3 = none then
      some 0
    else
      some 1
abbrev rm_X0_field : Room := { frames := 2, cells := 0, slots := 0, locals := 46 }
def xdX0_field (K : XK) (σ : MSt) (x1 : Int32) (x2 : Int32) : Option Int32 :=
  (xdX0_isField K σ x1).bind fun r1 =>
  if r1 = 0 then
    some (-2)
  else
    if x2 = 0 then
      (sv_ix x1 4).bind fun j10 =>
      (K.1 j10).bind fun v11 =>
      some v11.1
    else
      if x2 = 1 then
        (sv_ix x1 4).bind fun j8 =>
        (K.1 j8).bind fun v9 =>
        some v9.2.1
      else
        if x2 = 2 then
          (sv_ix x1 4).bind fun j6 =>
          (K.1 j6).bind fun v7 =>
          some v7.2.2
        else
          some (-3)
abbrev rm_X0_isFlock : Room := { frames := 1, cells := 0, slots := 0, locals := 25 }
def xdX0_isFlock (K : XK) (σ : MSt) (x1 : Int32) : Option Int32 :=
  (xdX0_in x1.toInt64 0 3).bind fun r1 =>
  if r1 = 0 then
    some 0
  else
    (sv_ix x1 4).bind fun j3 =>
    if K.2.1 j3 = none then
      some 0
    else
      some 1
abbrev rm_X0_flock : Room := { frames := 2, cells := 0, slots := 0, locals := 46 }
def xdX0_flock (K : XK) (σ : MSt) (x1 : Int32) : Option Int32 :=
  (xdX0_isFlock K σ x1).bind fun r1 =>
  if r1 = 0 then
    some (-2)
  else
    (sv_ix x1 4).bind fun j3 =>
    (K.2.1 j3).bind fun v4 =>
    some v4
abbrev rm_X0_isCoat : Room := { frames := 1, cells := 0, slots := 0, locals := 25 }
def xdX0_isCoat (K : XK) (σ : MSt) (x1 : Int32) : Option Int32 :=
  (xdX0_in x1.toInt64 0 3).bind fun r1 =>
  if r1 = 0 then
    some 0
  else
    (sv_ix x1 4).bind fun j3 =>
    if K.2.2.1 j3 = none then
      some 0
    else
      some 1
abbrev rm_X0_coat : Room := { frames := 2, cells := 0, slots := 0, locals := 46 }
def xdX0_coat (K : XK) (σ : MSt) (x1 : Int32) (x2 : Int32) : Option Int32 :=
  (xdX0_isCoat K σ x1).bind fun r1 =>
  if r1 = 0 then
    some (-2)
  else
    if x2 = 0 then
      (sv_ix x1 4).bind fun j7 =>
      (K.2.2.1 j7).bind fun v8 =>
      some v8.1
    else
      if x2 = 1 then
        (sv_ix x1 4).bind fun j5 =>
        (K.2.2.1 j5).bind fun v6 =>
        some v6.2
      else
        some (-3)
abbrev rm_X0_place : Room := { frames := 1, cells := 0, slots := 0, locals := 25 }
def xdX0_place_90 (K : XK)  (x2 : Int32) (x3 : Int32) (r4x : Nat) (σ : MSt) : Option (Int32 × MSt) :=
  (sv_ix x2 4).bind fun j13 =>
  (sv_ix x2 4).bind fun j14 =>
  some ((σ.2 r4x j13), (ms_a σ r4x j14 (vp_nar .byte x3.toInt8.toInt32)))
def xdX0_place_55b (K : XK)  (rk_55 : Int32 → Int32 → Nat → Int32 → MSt → Option (Int32 × MSt)) (x2 : Int32) (x3 : Int32) (r4x : Nat) (x5 : Int32) (σ : MSt) : Option (Int32 × MSt) :=
  if 4 ≤ x5 then
    xdX0_place_90 K x2 x3 r4x σ
  else
    if x3 = (-1) then
      xdX0_place_90 K x2 x3 r4x σ
    else
      if x5 = x2 then
        rk_55 x2 x3 r4x (x5 + 1) σ
      else
        (sv_ix x5 4).bind fun j11 =>
        if σ.2 r4x j11 = x3 then
          some ((-4), σ)
        else
          rk_55 x2 x3 r4x (x5 + 1) σ
def xdX0_place_55 (K : XK)  : Nat → Int32 → Int32 → Nat → Int32 → MSt → Option (Int32 × MSt)
  | 0, _, _, _, _, _ => none
  | n + 1, x2, x3, r4x, x5, σ => xdX0_place_55b K (xdX0_place_55 K n) x2 x3 r4x x5 σ
def xdX0_place (K : XK) (x1 : Int32) (x2 : Int32) (x3 : Int32) (σ : MSt) : Option (Int32 × MSt) :=
  (xdX0_in x1.toInt64 0 20).bind fun r1 =>
  if r1 = 0 then
    some ((-2), σ)
  else
    (xdX0_in x2.toInt64 0 3).bind fun r3 =>
    if r3 = 0 then
      some ((-2), σ)
    else
      (xdX0_in x3.toInt64 (-1) 3).bind fun r5 =>
      if r5 = 0 then
        some ((-2), σ)
      else
        (sv_ix x1 21).bind fun j7 =>
        xdX0_place_55 K sv_FU x2 x3 (j7 + (21 + 42 * 0)) 0 σ
abbrev rm_X0_real : Room := { frames := 1, cells := 0, slots := 0, locals := 25 }
def xdX0_real_46 (K : XK)  (x1 : Int32) (x2 : Int32) (x3 : Int32) (t0 : Int32) (σ : MSt) : Option (Int32 × MSt) :=
  (sv_ix x1 21).bind fun j8 =>
  (sv_ix x2 4).bind fun j9 =>
  some (t0, (ms_a σ (j8 + (42 + 42 * 0)) j9 (vp_nar .boolean x3)))
def xdX0_real (K : XK) (x1 : Int32) (x2 : Int32) (x3 : Int32) (σ : MSt) : Option (Int32 × MSt) :=
  (xdX0_in x1.toInt64 0 20).bind fun r1 =>
  if r1 = 0 then
    some ((-2), σ)
  else
    (xdX0_in x2.toInt64 0 3).bind fun r3 =>
    if r3 = 0 then
      some ((-2), σ)
    else
      (sv_ix x1 21).bind fun j5 =>
      (sv_ix x2 4).bind fun j6 =>
      if σ.2 (j5 + (42 + 42 * 0)) j6 = 0 then
        xdX0_real_46 K x1 x2 x3 0 σ
      else
        xdX0_real_46 K x1 x2 x3 1 σ
abbrev rm_X0_isDay : Room := { frames := 1, cells := 0, slots := 0, locals := 25 }
def xdX0_isDay (K : XK) (σ : MSt) (x1 : Int32) : Option Int32 :=
  (xdX0_in x1.toInt64 0 (((σ.1 7) - 1).toInt64)).bind fun r1 =>
  (sv_zb r1).bind fun b2 => some b2
abbrev rm_X4_begin_2 : Room := { frames := 2, cells := 0, slots := 0, locals := 46 }
def xdX4_begin_2_66b (K : XK) (w : Nat) (rk_58 : Int32 → MSt → Option MSt) (rk_66 : Int32 → Int32 → MSt → Option MSt) (x3 : Int32) (x4 : Int32) (σ : MSt) : Option MSt :=
  if 4 ≤ x4 then
    rk_58 (x3 + 1) σ
  else
    (sv_ix x3 4).bind fun j10 =>
    (xdX0_isCoat K σ x4).bind fun r11 =>
    if r11 = 0 then
      (sv_ix x4 4).bind fun j13 =>
      rk_66 x3 (x4 + 1) (ms_a σ (j10 + (7 * w + 1)) j13 0)
    else
      (sv_ix x4 4).bind fun j14 =>
      (K.2.2.1 j14).bind fun v15 =>
      (sv_ix x4 4).bind fun j16 =>
      rk_66 x3 (x4 + 1) (ms_a σ (j10 + (7 * w + 1)) j16 v15.1)
def xdX4_begin_2_66 (K : XK) (w : Nat) (rk_58 : Int32 → MSt → Option MSt) : Nat → Int32 → Int32 → MSt → Option MSt
  | 0, _, _, _ => none
  | n + 1, x3, x4, σ => xdX4_begin_2_66b K w rk_58 (xdX4_begin_2_66 K w rk_58 n) x3 x4 σ
def xdX4_begin_2_58b (K : XK) (w : Nat)  (rk_58 : Int32 → MSt → Option MSt) (x3 : Int32) (σ : MSt) : Option MSt :=
  if 4 ≤ x3 then
    some σ
  else
    xdX4_begin_2_66 K w rk_58 sv_FU x3 0 σ
def xdX4_begin_2_58 (K : XK) (w : Nat)  : Nat → Int32 → MSt → Option MSt
  | 0, _, _ => none
  | n + 1, x3, σ => xdX4_begin_2_58b K w (xdX4_begin_2_58 K w n) x3 σ
def xdX4_begin_2_12b (K : XK) (w : Nat)  (rk_12 : Int32 → MSt → Option MSt) (x3 : Int32) (σ : MSt) : Option MSt :=
  if 4 ≤ x3 then
    xdX4_begin_2_58 K w sv_FU 0 σ
  else
    (xdX0_isField K σ x3).bind fun r2 =>
    if r2 = 0 then
      (sv_ix x3 4).bind fun j4 =>
      rk_12 (x3 + 1) (ms_a σ (7 * w) j4 0)
    else
      (sv_ix x3 4).bind fun j5 =>
      (K.1 j5).bind fun v6 =>
      (sv_ix x3 4).bind fun j7 =>
      rk_12 (x3 + 1) (ms_a σ (7 * w) j7 v6.1)
def xdX4_begin_2_12 (K : XK) (w : Nat)  : Nat → Int32 → MSt → Option MSt
  | 0, _, _ => none
  | n + 1, x3, σ => xdX4_begin_2_12b K w (xdX4_begin_2_12 K w n) x3 σ
def xdX4_begin_2 (K : XK) (w : Nat) (x1 : Int32) (x2 : Int32) (σ : MSt) : Option MSt :=
  xdX4_begin_2_12 K w sv_FU 0 (ms_s (ms_s σ (20 + 2 * w) x1) (21 + 2 * w) x2)
abbrev rm_X4_begin : Room := { frames := 3, cells := 0, slots := 0, locals := 70 }
def xdX4_begin (K : XK) (w : Nat) (σ : MSt) : Option MSt :=
  (xdX4_begin_2 K w (-1) (σ.1 4) σ).bind fun s1 =>
  some s1
abbrev rm_J0_fill_2 : Room := { frames := 0, cells := 0, slots := 0, locals := 0 }
def jd_J0_fill_2_5b (n0 : Nat)  (rk_5 : Int32 → Int32 → Int32 → (Nat → Int32) → Option (Nat → Int32)) (x1 : Int32) (x2 : Int32) (x3 : Int32) (σ : Nat → Int32) : Option (Nat → Int32) :=
  if x3 ≤ x2 then
    some σ
  else
    (sv_ix x2 n0).bind fun j2 =>
    rk_5 x1 (x2 + 1) x3 (upd σ j2 x1)
def jd_J0_fill_2_5 (n0 : Nat)  : Nat → Int32 → Int32 → Int32 → (Nat → Int32) → Option (Nat → Int32)
  | 0, _, _, _, _ => none
  | n + 1, x1, x2, x3, σ => jd_J0_fill_2_5b n0 (jd_J0_fill_2_5 n0 n) x1 x2 x3 σ
def jd_J0_fill_2 (n0 : Nat) (x1 : Int32) (σ : Nat → Int32) : Option (Nat → Int32) :=
  jd_J0_fill_2_5 n0 sv_FU x1 0 (Int32.ofNat n0) σ
abbrev rm_X4_coatAt : Room := { frames := 2, cells := 0, slots := 0, locals := 46 }
def xdX4_coatAt (K : XK) (w : Nat) (ra : Nat) (σ : MSt) (x2 : Int32) : Option Int32 :=
  (sv_ix x2 4).bind fun j1 =>
  (xdX0_isCoat K σ (σ.2 ra j1)).bind fun r2 =>
  if r2 = 0 then
    some (-1)
  else
    (sv_ix x2 4).bind fun j4 =>
    some (σ.2 ra j4)
abbrev rm_X4_worth : Room := { frames := 3, cells := 0, slots := 0, locals := 68 }
def xdX4_worth (K : XK) (w : Nat) (ra : Nat) (σ : MSt) (x2 : Int32) (x3 : Int32) : Option Int32 :=
  (xdX4_coatAt K w ra σ x3).bind fun r1 =>
  (sv_ix x3 4).bind fun j2 =>
  (sv_ix x2 4).bind fun j3 =>
  (K.2.1 j3).bind fun v4 =>
  (sv_ix x3 4).bind fun j5 =>
  (K.1 j5).bind fun v6 =>
  if r1 = (-1) then
    some (((10 * (if v4 < σ.2 (7 * w) j2 then v4 else σ.2 (7 * w) j2)) - v6.2.1) - 0)
  else
    (sv_ix x2 4).bind fun j8 =>
    (sv_ix r1 4).bind fun j9 =>
    some (((10 * (if v4 < σ.2 (7 * w) j2 then v4 else σ.2 (7 * w) j2)) - v6.2.1) - (σ.2 (j8 + (7 * w + 1)) j9))
abbrev rm_X1_after : Room := { frames := 0, cells := 0, slots := 0, locals := 0 }
def xdX1_after  (x1 : Int32) (x2 : Int32) : Option Int32 :=
  some ((x1 * (100 - x2)) / 100)
abbrev rm_X2_after : Room := { frames := 1, cells := 0, slots := 0, locals := 23 }
def xdX2_after (K : XK) (σ : MSt) (x1 : Int32) (x2 : Int32) : Option Int32 :=
  (xdX1_after x1 x2).bind fun r1 =>
  some (if r1 < 999 then 999 else r1)
abbrev rm_X4_roost : Room := { frames := 2, cells := 0, slots := 0, locals := 46 }
def xdX4_roost_103b (K : XK) (w : Nat) (rk_2 : Int32 → MSt → Option MSt) (rk_103 : Int32 → Int32 → Int32 → Int32 → MSt → Option MSt) (x1 : Int32) (x2 : Int32) (x3 : Int32) (x4 : Int32) (σ : MSt) : Option MSt :=
  if 4 ≤ x4 then
    rk_2 (x1 + 1) σ
  else
    if x3 ≤ 0 then
      rk_2 (x1 + 1) σ
    else
      (sv_ix x4 4).bind fun j15 =>
      (sv_ix x1 4).bind fun j16 =>
      (xdX0_isFlock K σ x4).bind fun r17 =>
      if r17 = 0 then
        (sv_ix x1 4).bind fun j19 =>
        rk_103 x1 x2 x3 (x4 + 1) (ms_a σ (j15 + (7 * w + 1)) j19 ((σ.2 (j15 + (7 * w + 1)) j16) + 0))
      else
        if x3 = 0 then none else
        (sv_ix x4 4).bind fun j20 =>
        (sv_ix x1 4).bind fun j21 =>
        (sv_ix x1 4).bind fun j22 =>
        rk_103 x1 x2 x3 (x4 + 1) (ms_a σ (j15 + (7 * w + 1)) j22 ((σ.2 (j15 + (7 * w + 1)) j16) + ((((x2 / x3) - (σ.2 (j20 + (7 * w + 1)) j21)) * (σ.1 (21 + 2 * w))) / 100)))
def xdX4_roost_103 (K : XK) (w : Nat) (rk_2 : Int32 → MSt → Option MSt) : Nat → Int32 → Int32 → Int32 → Int32 → MSt → Option MSt
  | 0, _, _, _, _, _ => none
  | n + 1, x1, x2, x3, x4, σ => xdX4_roost_103b K w rk_2 (xdX4_roost_103 K w rk_2 n) x1 x2 x3 x4 σ
def xdX4_roost_60 (K : XK) (w : Nat) (rk_2 : Int32 → MSt → Option MSt) (rk_14 : Int32 → Int32 → Int32 → Int32 → MSt → Option MSt) (x1 : Int32) (x3 : Int32) (x4 : Int32) (t0 : Int32) (t1 : Int32) (σ : MSt) : Option MSt :=
  (xdX0_isFlock K σ x4).bind fun r9 =>
  if r9 = 0 then
    rk_14 x1 (t0 + t1) (x3 + 0) (x4 + 1) σ
  else
    (sv_ix x4 4).bind fun j11 =>
    (K.2.1 j11).bind fun v12 =>
    rk_14 x1 (t0 + t1) (x3 + v12) (x4 + 1) σ
def xdX4_roost_14b (K : XK) (w : Nat) (rk_2 : Int32 → MSt → Option MSt) (rk_14 : Int32 → Int32 → Int32 → Int32 → MSt → Option MSt) (x1 : Int32) (x2 : Int32) (x3 : Int32) (x4 : Int32) (σ : MSt) : Option MSt :=
  if 4 ≤ x4 then
    xdX4_roost_103 K w rk_2 sv_FU x1 x2 x3 0 σ
  else
    (xdX0_isFlock K σ x4).bind fun r3 =>
    if r3 = 0 then
      xdX4_roost_60 K w rk_2 rk_14 x1 x3 x4 x2 0 σ
    else
      (sv_ix x4 4).bind fun j5 =>
      (sv_ix x1 4).bind fun j6 =>
      (sv_ix x4 4).bind fun j7 =>
      (K.2.1 j7).bind fun v8 =>
      xdX4_roost_60 K w rk_2 rk_14 x1 x3 x4 x2 ((σ.2 (j5 + (7 * w + 1)) j6) * v8) σ
def xdX4_roost_14 (K : XK) (w : Nat) (rk_2 : Int32 → MSt → Option MSt) : Nat → Int32 → Int32 → Int32 → Int32 → MSt → Option MSt
  | 0, _, _, _, _, _ => none
  | n + 1, x1, x2, x3, x4, σ => xdX4_roost_14b K w rk_2 (xdX4_roost_14 K w rk_2 n) x1 x2 x3 x4 σ
def xdX4_roost_2b (K : XK) (w : Nat)  (rk_2 : Int32 → MSt → Option MSt) (x1 : Int32) (σ : MSt) : Option MSt :=
  if 4 ≤ x1 then
    some σ
  else
    xdX4_roost_14 K w rk_2 sv_FU x1 0 0 0 σ
def xdX4_roost_2 (K : XK) (w : Nat)  : Nat → Int32 → MSt → Option MSt
  | 0, _, _ => none
  | n + 1, x1, σ => xdX4_roost_2b K w (xdX4_roost_2 K w n) x1 σ
def xdX4_roost (K : XK) (w : Nat) (σ : MSt) : Option MSt :=
  xdX4_roost_2 K w sv_FU 0 σ
abbrev rm_X4_go : Room := { frames := 4, cells := 0, slots := 0, locals := 92 }
def xdX4_go_238 (K : XK) (w : Nat) (ra : Nat) (rb : Nat) (rk_205 : Int32 → Int32 → MSt → Option (Int32 × MSt)) (x3 : Int32) (x4 : Int32) (t0 : Int32) (σ : MSt) : Option (Int32 × MSt) :=
  if t0 = (-1) then
    rk_205 x3 (x4 + 1) σ
  else
    (sv_ix t0 4).bind fun j35 =>
    if σ.2 rb j35 = 0 then
      (sv_ix t0 4).bind fun j37 =>
      (sv_ix x4 4).bind fun j38 =>
      (sv_ix x4 4).bind fun j39 =>
      (sv_ix t0 4).bind fun j40 =>
      if σ.1 (20 + 2 * w) = (-1) then
        (sv_ix t0 4).bind fun j45 =>
        (K.2.2.1 j45).bind fun v46 =>
        (K.2.2.1 j37).bind fun v48 =>
        (xdX1_after (σ.2 (j39 + (7 * w + 1)) j40) v46.2).bind fun r47 =>
        (sv_ix t0 4).bind fun j49 =>
        rk_205 x3 (x4 + 1) (ms_a σ (j38 + (7 * w + 1)) j49 r47)
      else
        (K.2.2.1 j37).bind fun v43 =>
        (xdX1_after (σ.2 (j39 + (7 * w + 1)) j40) (σ.1 (20 + 2 * w))).bind fun r42 =>
        (sv_ix t0 4).bind fun j44 =>
        rk_205 x3 (x4 + 1) (ms_a σ (j38 + (7 * w + 1)) j44 r42)
    else
      (sv_ix x4 4).bind fun j50 =>
      (sv_ix x4 4).bind fun j51 =>
      (sv_ix t0 4).bind fun j52 =>
      if σ.1 (20 + 2 * w) = (-1) then
        (sv_ix t0 4).bind fun j56 =>
        (K.2.2.1 j56).bind fun v57 =>
        (xdX2_after K σ (σ.2 (j51 + (7 * w + 1)) j52) v57.2).bind fun r58 =>
        (sv_ix t0 4).bind fun j59 =>
        rk_205 x3 (x4 + 1) (ms_a σ (j50 + (7 * w + 1)) j59 r58)
      else
        (xdX2_after K σ (σ.2 (j51 + (7 * w + 1)) j52) (σ.1 (20 + 2 * w))).bind fun r54 =>
        (sv_ix t0 4).bind fun j55 =>
        rk_205 x3 (x4 + 1) (ms_a σ (j50 + (7 * w + 1)) j55 r54)
def xdX4_go_205b (K : XK) (w : Nat) (ra : Nat) (rb : Nat)  (rk_205 : Int32 → Int32 → MSt → Option (Int32 × MSt)) (x3 : Int32) (x4 : Int32) (σ : MSt) : Option (Int32 × MSt) :=
  if 4 ≤ x4 then
    (xdX4_roost K w σ).bind fun s29 =>
    some (x3, s29)
  else
    (sv_ix x4 4).bind fun j30 =>
    if σ.2 (7 * w + 5) j30 = (-1) then
      xdX4_go_238 K w ra rb rk_205 x3 x4 (-1) σ
    else
      (sv_ix x4 4).bind fun j32 =>
      (xdX4_coatAt K w ra σ (σ.2 (7 * w + 5) j32)).bind fun r33 =>
      xdX4_go_238 K w ra rb rk_205 x3 x4 r33 σ
def xdX4_go_205 (K : XK) (w : Nat) (ra : Nat) (rb : Nat)  : Nat → Int32 → Int32 → MSt → Option (Int32 × MSt)
  | 0, _, _, _ => none
  | n + 1, x3, x4, σ => xdX4_go_205b K w ra rb (xdX4_go_205 K w ra rb n) x3 x4 σ
def xdX4_go_116 (K : XK) (w : Nat) (ra : Nat) (rb : Nat) (rk_13 : Int32 → Int32 → MSt → Option (Int32 × MSt)) (x3 : Int32) (x4 : Int32) (σ : MSt) : Option (Int32 × MSt) :=
  (sv_ix x4 4).bind fun j16 =>
  if σ.2 (7 * w + 5) j16 = (-1) then
    rk_13 x3 (x4 + 1) σ
  else
    (sv_ix x4 4).bind fun j18 =>
    (sv_ix (σ.2 (7 * w + 5) j18) 4).bind fun j19 =>
    (sv_ix x4 4).bind fun j20 =>
    (K.2.1 j20).bind fun v21 =>
    (sv_ix x4 4).bind fun j22 =>
    (sv_ix (σ.2 (7 * w + 5) j22) 4).bind fun j23 =>
    (sv_ix (σ.2 (7 * w + 5) j22) 4).bind fun j24 =>
    (sv_ix x4 4).bind fun j25 =>
    (sv_ix ((ms_a σ (7 * w) j24 ((σ.2 (7 * w) j23) - (if v21 < σ.2 (7 * w) j19 then v21 else σ.2 (7 * w) j19))).2 (7 * w + 5) j25) 4).bind fun j26 =>
    (sv_ix ((ms_a σ (7 * w) j24 ((σ.2 (7 * w) j23) - (if v21 < σ.2 (7 * w) j19 then v21 else σ.2 (7 * w) j19))).2 (7 * w + 5) j25) 4).bind fun j27 =>
    rk_13 (x3 + (if v21 < σ.2 (7 * w) j19 then v21 else σ.2 (7 * w) j19)) (x4 + 1) (ms_a (ms_a σ (7 * w) j24 ((σ.2 (7 * w) j23) - (if v21 < σ.2 (7 * w) j19 then v21 else σ.2 (7 * w) j19))) (7 * w + 6) j27 (((ms_a σ (7 * w) j24 ((σ.2 (7 * w) j23) - (if v21 < σ.2 (7 * w) j19 then v21 else σ.2 (7 * w) j19))).2 (7 * w + 6) j26) + (if v21 < σ.2 (7 * w) j19 then v21 else σ.2 (7 * w) j19)))
def xdX4_go_98 (K : XK) (w : Nat) (ra : Nat) (rb : Nat) (rk_13 : Int32 → Int32 → MSt → Option (Int32 × MSt)) (rk_30 : Int32 → Int32 → Int32 → MSt → Option (Int32 × MSt)) (x3 : Int32) (x4 : Int32) (x5 : Int32) (t0 : Int32) (t1 : Int32) (σ : MSt) : Option (Int32 × MSt) :=
  if t0 ≤ t1 then
    rk_30 x3 x4 (x5 + 1) σ
  else
    (sv_ix x4 4).bind fun j15 =>
    rk_30 x3 x4 (x5 + 1) (ms_a σ (7 * w + 5) j15 x5)
def xdX4_go_30b (K : XK) (w : Nat) (ra : Nat) (rb : Nat) (rk_13 : Int32 → Int32 → MSt → Option (Int32 × MSt)) (rk_30 : Int32 → Int32 → Int32 → MSt → Option (Int32 × MSt)) (x3 : Int32) (x4 : Int32) (x5 : Int32) (σ : MSt) : Option (Int32 × MSt) :=
  if 4 ≤ x5 then
    xdX4_go_116 K w ra rb rk_13 x3 x4 σ
  else
    (xdX0_isFlock K σ x4).bind fun r5 =>
    if r5 = 0 then
      xdX4_go_116 K w ra rb rk_13 x3 x4 σ
    else
      (xdX0_isField K σ x5).bind fun r7 =>
      if r7 = 0 then
        rk_30 x3 x4 (x5 + 1) σ
      else
        (xdX4_worth K w ra σ x4 x5).bind fun r9 =>
        (sv_ix x4 4).bind fun j10 =>
        if σ.2 (7 * w + 5) j10 = (-1) then
          xdX4_go_98 K w ra rb rk_13 rk_30 x3 x4 x5 r9 0 σ
        else
          (sv_ix x4 4).bind fun j12 =>
          (xdX4_worth K w ra σ x4 (σ.2 (7 * w + 5) j12)).bind fun r13 =>
          xdX4_go_98 K w ra rb rk_13 rk_30 x3 x4 x5 r9 r13 σ
def xdX4_go_30 (K : XK) (w : Nat) (ra : Nat) (rb : Nat) (rk_13 : Int32 → Int32 → MSt → Option (Int32 × MSt)) : Nat → Int32 → Int32 → Int32 → MSt → Option (Int32 × MSt)
  | 0, _, _, _, _ => none
  | n + 1, x3, x4, x5, σ => xdX4_go_30b K w ra rb rk_13 (xdX4_go_30 K w ra rb rk_13 n) x3 x4 x5 σ
def xdX4_go_13b (K : XK) (w : Nat) (ra : Nat) (rb : Nat)  (rk_13 : Int32 → Int32 → MSt → Option (Int32 × MSt)) (x3 : Int32) (x4 : Int32) (σ : MSt) : Option (Int32 × MSt) :=
  if 4 ≤ x4 then
    xdX4_go_205 K w ra rb sv_FU x3 0 σ
  else
    (sv_ix x4 4).bind fun j3 =>
    xdX4_go_30 K w ra rb rk_13 sv_FU x3 x4 0 (ms_a σ (7 * w + 5) j3 (-1))
def xdX4_go_13 (K : XK) (w : Nat) (ra : Nat) (rb : Nat)  : Nat → Int32 → Int32 → MSt → Option (Int32 × MSt)
  | 0, _, _, _ => none
  | n + 1, x3, x4, σ => xdX4_go_13b K w ra rb (xdX4_go_13 K w ra rb n) x3 x4 σ
def xdX4_go (K : XK) (w : Nat) (ra : Nat) (rb : Nat) (σ : MSt) : Option (Int32 × MSt) :=
  (jd_J0_fill_2 4 0 (σ.2 (7 * w + 6))).bind fun f1 =>
  xdX4_go_13 K w ra rb sv_FU 0 0 (ms_w σ (7 * w + 6) f1)
abbrev rm_X4_run : Room := { frames := 5, cells := 0, slots := 0, locals := 118 }
def xdX4_run_9b (K : XK) (w : Nat) (p : Nat)  (rk_9 : Int32 → Int32 → Int32 → MSt → Option (Int32 × MSt)) (x2 : Int32) (x3 : Int32) (x4 : Int32) (σ : MSt) : Option (Int32 × MSt) :=
  if x2 ≤ x4 then
    some (x3, σ)
  else
    (sv_ix x4 21).bind fun j3 =>
    (sv_ix x4 21).bind fun j4 =>
    (xdX4_go K w (j3 + (21 + 42 * p)) (j4 + (42 + 42 * p)) σ).bind fun p5 =>
    rk_9 x2 (x3 + p5.1) (x4 + 1) p5.2
def xdX4_run_9 (K : XK) (w : Nat) (p : Nat)  : Nat → Int32 → Int32 → Int32 → MSt → Option (Int32 × MSt)
  | 0, _, _, _, _ => none
  | n + 1, x2, x3, x4, σ => xdX4_run_9b K w p (xdX4_run_9 K w p n) x2 x3 x4 σ
def xdX4_run (K : XK) (w : Nat) (p : Nat) (x2 : Int32) (σ : MSt) : Option (Int32 × MSt) :=
  (xdX4_begin K w σ).bind fun s1 =>
  xdX4_run_9 K w p sv_FU x2 0 0 s1
abbrev rm_X0_went : Room := { frames := 6, cells := 0, slots := 0, locals := 142 }
def xdX0_went (K : XK) (x1 : Int32) (x2 : Int32) (σ : MSt) : Option (Int32 × MSt) :=
  (xdX0_isDay K σ x1).bind fun r1 =>
  if r1 = 0 then
    some ((-2), σ)
  else
    (xdX0_isFlock K σ x2).bind fun r3 =>
    if r3 = 0 then
      some ((-2), σ)
    else
      (xdX4_run K 0 0 (x1 + 1) σ).bind fun p5 =>
      (sv_ix x2 4).bind fun j6 =>
      some ((p5.2.2 (7 * 0 + 5) j6), p5.2)
abbrev rm_X0_eaten : Room := { frames := 6, cells := 0, slots := 0, locals := 142 }
def xdX0_eaten_62 (K : XK) (rk_44 : Int32 → Int32 → Int32 → MSt → Option (Int32 × MSt)) (x2 : Int32) (x4 : Int32) (t0 : Int32) (σ : MSt) : Option (Int32 × MSt) :=
  (sv_ix x4 4).bind fun j10 =>
  rk_44 x2 (t0 + (σ.2 (7 * 0 + 6) j10)) (x4 + 1) σ
def xdX0_eaten_44b (K : XK)  (rk_44 : Int32 → Int32 → Int32 → MSt → Option (Int32 × MSt)) (x2 : Int32) (x3 : Int32) (x4 : Int32) (σ : MSt) : Option (Int32 × MSt) :=
  if 4 ≤ x4 then
    some (x3, σ)
  else
    if x2 = (-1) then
      xdX0_eaten_62 K rk_44 x2 x4 x3 σ
    else
      if x2 = x4 then
        xdX0_eaten_62 K rk_44 x2 x4 x3 σ
      else
        rk_44 x2 (x3 + 0) (x4 + 1) σ
def xdX0_eaten_44 (K : XK)  : Nat → Int32 → Int32 → Int32 → MSt → Option (Int32 × MSt)
  | 0, _, _, _, _ => none
  | n + 1, x2, x3, x4, σ => xdX0_eaten_44b K (xdX0_eaten_44 K n) x2 x3 x4 σ
def xdX0_eaten_24 (K : XK)  (x1 : Int32) (x2 : Int32) (σ : MSt) : Option (Int32 × MSt) :=
  (xdX4_run K 0 0 (x1 + 1) σ).bind fun p6 =>
  xdX0_eaten_44 K sv_FU x2 0 0 p6.2
def xdX0_eaten (K : XK) (x1 : Int32) (x2 : Int32) (σ : MSt) : Option (Int32 × MSt) :=
  (xdX0_isDay K σ x1).bind fun r1 =>
  if r1 = 0 then
    some ((-2), σ)
  else
    if x2 = (-1) then
      xdX0_eaten_24 K x1 x2 σ
    else
      (xdX0_isField K σ x2).bind fun r4 =>
      if r4 = 0 then
        some ((-2), σ)
      else
        xdX0_eaten_24 K x1 x2 σ
abbrev rm_X0_left : Room := { frames := 6, cells := 0, slots := 0, locals := 142 }
def xdX0_left (K : XK) (x1 : Int32) (x2 : Int32) (σ : MSt) : Option (Int32 × MSt) :=
  (xdX0_isDay K σ x1).bind fun r1 =>
  if r1 = 0 then
    some ((-2), σ)
  else
    (xdX0_isField K σ x2).bind fun r3 =>
    if r3 = 0 then
      some ((-2), σ)
    else
      (xdX4_run K 0 0 (x1 + 1) σ).bind fun p5 =>
      (sv_ix x2 4).bind fun j6 =>
      some ((p5.2.2 (7 * 0) j6), p5.2)
abbrev rm_X0_fear : Room := { frames := 6, cells := 0, slots := 0, locals := 142 }
def xdX0_fear_13 (K : XK)  (x1 : Int32) (x2 : Int32) (x3 : Int32) (σ : MSt) : Option (Int32 × MSt) :=
  (xdX0_isFlock K σ x2).bind fun r4 =>
  if r4 = 0 then
    some ((-2), σ)
  else
    (xdX0_isCoat K σ x3).bind fun r6 =>
    if r6 = 0 then
      some ((-2), σ)
    else
      (xdX4_run K 0 0 (x1 + 1) σ).bind fun p8 =>
      (sv_ix x2 4).bind fun j9 =>
      (sv_ix x3 4).bind fun j10 =>
      some ((p8.2.2 (j9 + (7 * 0 + 1)) j10), p8.2)
def xdX0_fear (K : XK) (x1 : Int32) (x2 : Int32) (x3 : Int32) (σ : MSt) : Option (Int32 × MSt) :=
  if x1 = (-1) then
    xdX0_fear_13 K x1 x2 x3 σ
  else
    (xdX0_isDay K σ x1).bind fun r2 =>
    if r2 = 0 then
      some ((-2), σ)
    else
      xdX0_fear_13 K x1 x2 x3 σ
abbrev rm_X0_wagesOf : Room := { frames := 2, cells := 0, slots := 0, locals := 46 }
def xdX0_wagesOf_15b (K : XK) (p : Nat) (σ : MSt) (rk_4 : Int32 → Int32 → Option Int32) (rk_15 : Int32 → Int32 → Int32 → Option Int32) (x2 : Int32) (x3 : Int32) (x4 : Int32) : Option Int32 :=
  if 4 ≤ x4 then
    rk_4 x2 (x3 + 1)
  else
    (sv_ix x3 21).bind fun j3 =>
    (sv_ix x4 4).bind fun j4 =>
    (xdX0_isField K σ x4).bind fun r5 =>
    if r5 = 0 then
      rk_15 (x2 + 0) x3 (x4 + 1)
    else
      (xdX0_isCoat K σ (σ.2 (j3 + (21 + 42 * p)) j4)).bind fun r7 =>
      if r7 = 0 then
        rk_15 (x2 + 0) x3 (x4 + 1)
      else
        (sv_ix x3 21).bind fun j9 =>
        (sv_ix (σ.2 (j3 + (21 + 42 * p)) j4) 4).bind fun j10 =>
        if σ.2 (j9 + (42 + 42 * p)) j10 = 0 then
          rk_15 (x2 + 0) x3 (x4 + 1)
        else
          rk_15 (x2 + (σ.1 5)) x3 (x4 + 1)
def xdX0_wagesOf_15 (K : XK) (p : Nat) (σ : MSt) (rk_4 : Int32 → Int32 → Option Int32) : Nat → Int32 → Int32 → Int32 → Option Int32
  | 0, _, _, _ => none
  | n + 1, x2, x3, x4 => xdX0_wagesOf_15b K p σ rk_4 (xdX0_wagesOf_15 K p σ rk_4 n) x2 x3 x4
def xdX0_wagesOf_4b (K : XK) (p : Nat) (σ : MSt)  (rk_4 : Int32 → Int32 → Option Int32) (x2 : Int32) (x3 : Int32) : Option Int32 :=
  if σ.1 7 ≤ x3 then
    some x2
  else
    xdX0_wagesOf_15 K p σ rk_4 sv_FU x2 x3 0
def xdX0_wagesOf_4 (K : XK) (p : Nat) (σ : MSt)  : Nat → Int32 → Int32 → Option Int32
  | 0, _, _ => none
  | n + 1, x2, x3 => xdX0_wagesOf_4b K p σ (xdX0_wagesOf_4 K p σ n) x2 x3
def xdX0_wagesOf (K : XK) (p : Nat) (σ : MSt)  : Option Int32 :=
  xdX0_wagesOf_4 K p σ sv_FU 0 0
abbrev rm_X0_costOf : Room := { frames := 6, cells := 0, slots := 0, locals := 142 }
def xdX0_costOf (K : XK) (p : Nat) (σ : MSt) : Option (Int32 × MSt) :=
  (xdX4_run K 0 p (σ.1 7) σ).bind fun p1 =>
  (xdX0_wagesOf K p p1.2).bind fun r2 =>
  some (((p1.1 * (p1.2.1 6)) + r2), p1.2)
abbrev rm_X0_cost : Room := { frames := 7, cells := 0, slots := 0, locals := 163 }
def xdX0_cost (K : XK) (x1 : Int32) (σ : MSt) : Option (Int32 × MSt) :=
  if x1 = 0 then
    (xdX0_costOf K 0 σ).bind fun p6 =>
    some (p6.1, p6.2)
  else
    if x1 = 1 then
      (xdX4_run K 0 0 (σ.1 7) σ).bind fun p5 =>
      some (p5.1, p5.2)
    else
      if x1 = 2 then
        (xdX0_wagesOf K 0 σ).bind fun r4 =>
        some (r4, σ)
      else
        some ((-3), σ)
abbrev rm_J0_fill : Room := { frames := 0, cells := 0, slots := 0, locals := 0 }
def jd_J0_fill_5b (n0 : Nat)  (rk_5 : Int32 → Int32 → Int32 → (Nat → Int32) → Option (Nat → Int32)) (x1 : Int32) (x2 : Int32) (x3 : Int32) (σ : Nat → Int32) : Option (Nat → Int32) :=
  if x3 ≤ x2 then
    some σ
  else
    (sv_ix x2 n0).bind fun j2 =>
    rk_5 x1 (x2 + 1) x3 (upd σ j2 (vp_nar .byte x1))
def jd_J0_fill_5 (n0 : Nat)  : Nat → Int32 → Int32 → Int32 → (Nat → Int32) → Option (Nat → Int32)
  | 0, _, _, _, _ => none
  | n + 1, x1, x2, x3, σ => jd_J0_fill_5b n0 (jd_J0_fill_5 n0 n) x1 x2 x3 σ
def jd_J0_fill (n0 : Nat) (x1 : Int32) (σ : Nat → Int32) : Option (Nat → Int32) :=
  jd_J0_fill_5 n0 sv_FU x1 0 (Int32.ofNat n0) σ
abbrev rm_X5_first : Room := { frames := 1, cells := 0, slots := 0, locals := 23 }
def xdX5_first (K : XK) (q : Nat) (σ : MSt) : Option MSt :=
  (jd_J0_fill 4 (-1) (σ.2 (106 + q))).bind fun f1 =>
  some (ms_w σ (106 + q) f1)
abbrev rm_X4_copy : Room := { frames := 1, cells := 0, slots := 0, locals := 48 }
def xdX4_copy_32b (K : XK) (w : Nat) (o : Nat)  (rk_32 : Int32 → MSt → Option MSt) (x2 : Int32) (σ : MSt) : Option MSt :=
  if 4 ≤ x2 then
    some σ
  else
    (sv_ix x2 4).bind fun j2 =>
    (sv_ix x2 4).bind fun j3 =>
    rk_32 (x2 + 1) (ms_w σ (j3 + (7 * w + 1)) (va_cpy (σ.2 (j2 + (7 * o + 1))) (σ.2 (j3 + (7 * w + 1))) (0 : Int32).toNatClampNeg (0 : Int32).toNatClampNeg (4 : Int32).toNatClampNeg))
def xdX4_copy_32 (K : XK) (w : Nat) (o : Nat)  : Nat → Int32 → MSt → Option MSt
  | 0, _, _ => none
  | n + 1, x2, σ => xdX4_copy_32b K w o (xdX4_copy_32 K w o n) x2 σ
def xdX4_copy (K : XK) (w : Nat) (o : Nat) (σ : MSt) : Option MSt :=
  xdX4_copy_32 K w o sv_FU 0 (ms_w (ms_s (ms_s σ (20 + 2 * w) (σ.1 (20 + 2 * o))) (21 + 2 * w) ((ms_s σ (20 + 2 * w) (σ.1 (20 + 2 * o))).1 (21 + 2 * o))) (7 * w) (va_cpy ((ms_s (ms_s σ (20 + 2 * w) (σ.1 (20 + 2 * o))) (21 + 2 * w) ((ms_s σ (20 + 2 * w) (σ.1 (20 + 2 * o))).1 (21 + 2 * o))).2 (7 * o)) ((ms_s (ms_s σ (20 + 2 * w) (σ.1 (20 + 2 * o))) (21 + 2 * w) ((ms_s σ (20 + 2 * w) (σ.1 (20 + 2 * o))).1 (21 + 2 * o))).2 (7 * w)) (0 : Int32).toNatClampNeg (0 : Int32).toNatClampNeg (4 : Int32).toNatClampNeg))
abbrev rm_X5_isUsed : Room := { frames := 0, cells := 0, slots := 0, locals := 0 }
def xdX5_isUsed_5b (K : XK) (q : Nat) (σ : MSt)  (rk_5 : Int32 → Int32 → Int32 → Int32 → Option Int32) (x1 : Int32) (x2 : Int32) (x3 : Int32) (x4 : Int32) : Option Int32 :=
  if x1 ≤ x4 then
    (sv_zb x3).bind fun b2 => some b2
  else
    (sv_ix x4 4).bind fun j3 =>
    if σ.2 (106 + q) j3 = x2 then
      rk_5 x1 x2 (x3 ||| 1) (x4 + 1)
    else
      rk_5 x1 x2 (x3 ||| 0) (x4 + 1)
def xdX5_isUsed_5 (K : XK) (q : Nat) (σ : MSt)  : Nat → Int32 → Int32 → Int32 → Int32 → Option Int32
  | 0, _, _, _, _ => none
  | n + 1, x1, x2, x3, x4 => xdX5_isUsed_5b K q σ (xdX5_isUsed_5 K q σ n) x1 x2 x3 x4
def xdX5_isUsed (K : XK) (q : Nat) (σ : MSt) (x1 : Int32) (x2 : Int32) : Option Int32 :=
  xdX5_isUsed_5 K q σ sv_FU x1 x2 0 0
abbrev rm_X5_next : Room := { frames := 2, cells := 0, slots := 0, locals := 46 }
def xdX5_next_63b (K : XK) (q : Nat)  (rk_63 : Int32 → MSt → Option (Int32 × MSt)) (x3 : Int32) (σ : MSt) : Option (Int32 × MSt) :=
  if 4 ≤ x3 then
    some (1, σ)
  else
    (sv_ix x3 4).bind fun j12 =>
    rk_63 (x3 + 1) (ms_a σ (106 + q) j12 (vp_nar .byte (-1)))
def xdX5_next_63 (K : XK) (q : Nat)  : Nat → Int32 → MSt → Option (Int32 × MSt)
  | 0, _, _ => none
  | n + 1, x3, σ => xdX5_next_63b K q (xdX5_next_63 K q n) x3 σ
def xdX5_next_15b (K : XK) (q : Nat) (rk_2 : Int32 → MSt → Option (Int32 × MSt)) (rk_15 : Int32 → Int32 → MSt → Option (Int32 × MSt)) (x1 : Int32) (x2 : Int32) (σ : MSt) : Option (Int32 × MSt) :=
  if 4 ≤ x2 then
    rk_2 (x1 + (-1)) σ
  else
    (xdX0_isField K σ x1).bind fun r4 =>
    if r4 = 0 then
      rk_2 (x1 + (-1)) σ
    else
      (xdX0_isCoat K σ x2).bind fun r6 =>
      if r6 = 0 then
        rk_15 x1 (x2 + 1) σ
      else
        (xdX5_isUsed K q σ x1 x2).bind fun r8 =>
        if r8 = 0 then
          (sv_ix x1 4).bind fun j10 =>
          xdX5_next_63 K q sv_FU (x1 + 1) (ms_a σ (106 + q) j10 (vp_nar .byte x2.toInt8.toInt32))
        else
          rk_15 x1 (x2 + 1) σ
def xdX5_next_15 (K : XK) (q : Nat) (rk_2 : Int32 → MSt → Option (Int32 × MSt)) : Nat → Int32 → Int32 → MSt → Option (Int32 × MSt)
  | 0, _, _, _ => none
  | n + 1, x1, x2, σ => xdX5_next_15b K q rk_2 (xdX5_next_15 K q rk_2 n) x1 x2 σ
def xdX5_next_2b (K : XK) (q : Nat)  (rk_2 : Int32 → MSt → Option (Int32 × MSt)) (x1 : Int32) (σ : MSt) : Option (Int32 × MSt) :=
  if x1 < 0 then
    some (0, σ)
  else
    (sv_ix x1 4).bind fun j2 =>
    xdX5_next_15 K q rk_2 sv_FU x1 ((σ.2 (106 + q) j2) + 1) σ
def xdX5_next_2 (K : XK) (q : Nat)  : Nat → Int32 → MSt → Option (Int32 × MSt)
  | 0, _, _ => none
  | n + 1, x1, σ => xdX5_next_2b K q (xdX5_next_2 K q n) x1 σ
def xdX5_next (K : XK) (q : Nat) (σ : MSt) : Option (Int32 × MSt) :=
  xdX5_next_2 K q sv_FU 3 σ
abbrev rm_X0_bestNext : Room := { frames := 5, cells := 0, slots := 0, locals := 118 }
def xdX0_bestNext_67 (K : XK) (rk_11 : Int32 → Int32 → Int32 → MSt → Option (Int32 × MSt)) (x1 : Int32) (t0 : Int32) (σ : MSt) : Option (Int32 × MSt) :=
  (xdX5_next K 1 σ).bind fun p7 =>
  rk_11 x1 t0 p7.1 p7.2
def xdX0_bestNext_11b (K : XK)  (rk_11 : Int32 → Int32 → Int32 → MSt → Option (Int32 × MSt)) (x1 : Int32) (x2 : Int32) (x3 : Int32) (σ : MSt) : Option (Int32 × MSt) :=
  if x3 = 0 then
    some (x2, σ)
  else
    (xdX4_copy K 2 1 σ).bind fun s3 =>
    (sv_ix x1 21).bind fun j4 =>
    (xdX4_go K 2 (106 + 1) (j4 + (42 + 42 * 0)) s3).bind fun p5 =>
    if x2 = (-1) then
      xdX0_bestNext_67 K rk_11 x1 p5.1 p5.2
    else
      xdX0_bestNext_67 K rk_11 x1 (if p5.1 < x2 then p5.1 else x2) p5.2
def xdX0_bestNext_11 (K : XK)  : Nat → Int32 → Int32 → Int32 → MSt → Option (Int32 × MSt)
  | 0, _, _, _, _ => none
  | n + 1, x1, x2, x3, σ => xdX0_bestNext_11b K (xdX0_bestNext_11 K n) x1 x2 x3 σ
def xdX0_bestNext (K : XK) (x1 : Int32) (σ : MSt) : Option (Int32 × MSt) :=
  (xdX5_first K 1 σ).bind fun s1 =>
  xdX0_bestNext_11 K sv_FU x1 (-1) 1 s1
abbrev rm_X0_bestOf : Room := { frames := 6, cells := 0, slots := 0, locals := 142 }
def xdX0_bestOf_118 (K : XK) (rk_25 : Int32 → Int32 → Int32 → Int32 → MSt → Option (Int32 × MSt)) (x1 : Int32) (x2 : Int32) (x3 : Int32) (σ : MSt) : Option (Int32 × MSt) :=
  (xdX5_next K 0 σ).bind fun p11 =>
  rk_25 x1 x2 x3 p11.1 p11.2
def xdX0_bestOf_98 (K : XK) (rk_25 : Int32 → Int32 → Int32 → Int32 → MSt → Option (Int32 × MSt)) (x1 : Int32) (x2 : Int32) (x5 : Int32) (σ : MSt) : Option (Int32 × MSt) :=
  if xs_b (σ.2 (106 + 0)) = true then
    xdX0_bestOf_118 K rk_25 x1 x2 x5 (ms_w σ 108 (va_cpy (σ.2 (106 + 0)) (σ.2 108) (0 : Int32).toNatClampNeg (0 : Int32).toNatClampNeg (4 : Int32).toNatClampNeg))
  else none
def xdX0_bestOf_84 (K : XK) (rk_25 : Int32 → Int32 → Int32 → Int32 → MSt → Option (Int32 × MSt)) (x1 : Int32) (x2 : Int32) (x3 : Int32) (t0 : Int32) (t1 : Int32) (σ : MSt) : Option (Int32 × MSt) :=
  if x3 = (-1) then
    xdX0_bestOf_98 K rk_25 x1 x2 (t0 + t1) σ
  else
    if x3 ≤ t0 + t1 then
      xdX0_bestOf_118 K rk_25 x1 x2 x3 σ
    else
      xdX0_bestOf_98 K rk_25 x1 x2 (t0 + t1) σ
def xdX0_bestOf_25b (K : XK)  (rk_25 : Int32 → Int32 → Int32 → Int32 → MSt → Option (Int32 × MSt)) (x1 : Int32) (x2 : Int32) (x3 : Int32) (x4 : Int32) (σ : MSt) : Option (Int32 × MSt) :=
  if x4 = 0 then
    some (x3, σ)
  else
    (xdX4_copy K 1 0 σ).bind fun s4 =>
    (sv_ix x1 21).bind fun j5 =>
    (xdX4_go K 1 (106 + 0) (j5 + (42 + 42 * 0)) s4).bind fun p6 =>
    if x2 = 2 then
      (xdX0_bestNext K (x1 + 1) p6.2).bind fun p8 =>
      xdX0_bestOf_84 K rk_25 x1 x2 x3 p6.1 p8.1 p8.2
    else
      xdX0_bestOf_84 K rk_25 x1 x2 x3 p6.1 0 p6.2
def xdX0_bestOf_25 (K : XK)  : Nat → Int32 → Int32 → Int32 → Int32 → MSt → Option (Int32 × MSt)
  | 0, _, _, _, _, _ => none
  | n + 1, x1, x2, x3, x4, σ => xdX0_bestOf_25b K (xdX0_bestOf_25 K n) x1 x2 x3 x4 σ
def xdX0_bestOf (K : XK) (x1 : Int32) (x2 : Int32) (σ : MSt) : Option (Int32 × MSt) :=
  (xdX4_run K 0 0 x1 σ).bind fun p1 =>
  (xdX5_first K 0 p1.2).bind fun s2 =>
  xdX0_bestOf_25 K sv_FU x1 x2 (-1) 1 s2
abbrev rm_X0_best : Room := { frames := 7, cells := 0, slots := 0, locals := 167 }
def xdX0_best (K : XK) (x1 : Int32) (x2 : Int32) (x3 : Int32) (σ : MSt) : Option (Int32 × MSt) :=
  (xdX0_isDay K σ x1).bind fun r1 =>
  if r1 = 0 then
    some ((-2), σ)
  else
    (xdX0_in x2.toInt64 1 2).bind fun r3 =>
    if r3 = 0 then
      some ((-3), σ)
    else
      if σ.1 7 < x1 + x2 then
        some ((-3), σ)
      else
        (xdX0_in x3.toInt64 (-1) 3).bind fun r6 =>
        if r6 = 0 then
          some ((-3), σ)
        else
          (xdX0_bestOf K x1 x2 σ).bind fun p8 =>
          if x3 = (-1) then
            some (p8.1, p8.2)
          else
            (sv_ix x3 4).bind fun j10 =>
            some ((p8.2.2 108 j10), p8.2)
abbrev rm_X0_seldom : Room := { frames := 2, cells := 0, slots := 0, locals := 46 }
def xdX0_seldom_39b (K : XK) (σ : MSt)  (rk_39 : Int32 → Int32 → Int32 → Int32 → Option Int32) (x1 : Int32) (x2 : Int32) (x3 : Int32) (x4 : Int32) : Option Int32 :=
  if 99 ≤ x3 then
    some x3
  else
    if x4 < x2 then
      some x3
    else
      (sv_ix x1 4).bind fun j8 =>
      (sv_ix x1 4).bind fun j9 =>
      (K.2.2.1 j9).bind fun v10 =>
      (K.2.2.1 j8).bind fun v12 =>
      (xdX1_after x4 v10.2).bind fun r11 =>
      rk_39 x1 x2 (x3 + 1) r11
def xdX0_seldom_39 (K : XK) (σ : MSt)  : Nat → Int32 → Int32 → Int32 → Int32 → Option Int32
  | 0, _, _, _, _ => none
  | n + 1, x1, x2, x3, x4 => xdX0_seldom_39b K σ (xdX0_seldom_39 K σ n) x1 x2 x3 x4
def xdX0_seldom (K : XK) (σ : MSt) (x1 : Int32) (x2 : Int32) : Option Int32 :=
  (xdX0_isCoat K σ x1).bind fun r1 =>
  if r1 = 0 then
    some (-2)
  else
    (xdX0_in x2.toInt64 1 999).bind fun r3 =>
    if r3 = 0 then
      some (-3)
    else
      (xdX2_after K σ 0 0).bind fun r5 =>
      xdX0_seldom_39 K σ sv_FU x1 x2 0 r5
abbrev rm_X0_lasts : Room := { frames := 2, cells := 0, slots := 0, locals := 46 }
def xdX0_lasts_42b (K : XK) (σ : MSt)  (rk_42 : Int32 → Nat → Int32 → Int32 → Option Int32) (x2 : Int32) (o3 : Nat) (x4 : Int32) (x5 : Int32) : Option Int32 :=
  if x4 < x2 then
    some x5
  else
    (K.2.2.1 o3).bind fun v8 =>
    if v8.2 = 0 then
      some (-1)
    else
      (K.2.2.1 o3).bind fun v10 =>
      (K.2.2.1 o3).bind fun v12 =>
      (xdX1_after x4 v10.2).bind fun r11 =>
      rk_42 x2 o3 r11 (x5 + 1)
def xdX0_lasts_42 (K : XK) (σ : MSt)  : Nat → Int32 → Nat → Int32 → Int32 → Option Int32
  | 0, _, _, _, _ => none
  | n + 1, x2, o3, x4, x5 => xdX0_lasts_42b K σ (xdX0_lasts_42 K σ n) x2 o3 x4 x5
def xdX0_lasts (K : XK) (σ : MSt) (x1 : Int32) (x2 : Int32) : Option Int32 :=
  (xdX0_isCoat K σ x1).bind fun r1 =>
  if r1 = 0 then
    some (-2)
  else
    (xdX0_in x2.toInt64 1 999).bind fun r3 =>
    if r3 = 0 then
      some (-3)
    else
      (sv_ix x1 4).bind fun j5 =>
      (K.2.2.1 j5).bind fun v6 =>
      xdX0_lasts_42 K σ sv_FU x2 j5 v6.1 0
abbrev rm_X3_copy : Room := { frames := 1, cells := 0, slots := 0, locals := 48 }
def xdX3_copy_2b (K : XK) (p : Nat) (o : Nat)  (rk_2 : Int32 → MSt → Option MSt) (x2 : Int32) (σ : MSt) : Option MSt :=
  if 21 ≤ x2 then
    some σ
  else
    (sv_ix x2 21).bind fun j2 =>
    (sv_ix x2 21).bind fun j3 =>
    if xs_b (σ.2 (j2 + (21 + 42 * o))) = true then
      (sv_ix x2 21).bind fun j4 =>
      (sv_ix x2 21).bind fun j5 =>
      if xs_z ((ms_w σ (j3 + (21 + 42 * p)) (va_cpy (σ.2 (j2 + (21 + 42 * o))) (σ.2 (j3 + (21 + 42 * p))) (0 : Int32).toNatClampNeg (0 : Int32).toNatClampNeg (4 : Int32).toNatClampNeg)).2 (j4 + (42 + 42 * o))) = true then
        rk_2 (x2 + 1) (ms_w (ms_w σ (j3 + (21 + 42 * p)) (va_cpy (σ.2 (j2 + (21 + 42 * o))) (σ.2 (j3 + (21 + 42 * p))) (0 : Int32).toNatClampNeg (0 : Int32).toNatClampNeg (4 : Int32).toNatClampNeg)) (j5 + (42 + 42 * p)) (va_cpy ((ms_w σ (j3 + (21 + 42 * p)) (va_cpy (σ.2 (j2 + (21 + 42 * o))) (σ.2 (j3 + (21 + 42 * p))) (0 : Int32).toNatClampNeg (0 : Int32).toNatClampNeg (4 : Int32).toNatClampNeg)).2 (j4 + (42 + 42 * o))) ((ms_w σ (j3 + (21 + 42 * p)) (va_cpy (σ.2 (j2 + (21 + 42 * o))) (σ.2 (j3 + (21 + 42 * p))) (0 : Int32).toNatClampNeg (0 : Int32).toNatClampNeg (4 : Int32).toNatClampNeg)).2 (j5 + (42 + 42 * p))) (0 : Int32).toNatClampNeg (0 : Int32).toNatClampNeg (4 : Int32).toNatClampNeg))
      else none
    else none
def xdX3_copy_2 (K : XK) (p : Nat) (o : Nat)  : Nat → Int32 → MSt → Option MSt
  | 0, _, _ => none
  | n + 1, x2, σ => xdX3_copy_2b K p o (xdX3_copy_2 K p o n) x2 σ
def xdX3_copy (K : XK) (p : Nat) (o : Nat) (σ : MSt) : Option MSt :=
  xdX3_copy_2 K p o sv_FU 0 σ
abbrev rm_X3_takeOff : Room := { frames := 0, cells := 0, slots := 0, locals := 0 }
def xdX3_takeOff_2b (K : XK) (p : Nat)  (rk_2 : Int32 → Int32 → Int32 → MSt → Option MSt) (x1 : Int32) (x2 : Int32) (x3 : Int32) (σ : MSt) : Option MSt :=
  if 4 ≤ x3 then
    some σ
  else
    (sv_ix x1 21).bind fun j2 =>
    (sv_ix x1 21).bind fun j3 =>
    (sv_ix x3 4).bind fun j4 =>
    if σ.2 (j3 + (21 + 42 * p)) j4 = x2 then
      (sv_ix x3 4).bind fun j9 =>
      rk_2 x1 x2 (x3 + 1) (ms_a σ (j2 + (21 + 42 * p)) j9 (vp_nar .byte (-1)))
    else
      (sv_ix x1 21).bind fun j6 =>
      (sv_ix x3 4).bind fun j7 =>
      (sv_ix x3 4).bind fun j8 =>
      rk_2 x1 x2 (x3 + 1) (ms_a σ (j2 + (21 + 42 * p)) j8 (vp_nar .byte (σ.2 (j6 + (21 + 42 * p)) j7)))
def xdX3_takeOff_2 (K : XK) (p : Nat)  : Nat → Int32 → Int32 → Int32 → MSt → Option MSt
  | 0, _, _, _, _ => none
  | n + 1, x1, x2, x3, σ => xdX3_takeOff_2b K p (xdX3_takeOff_2 K p n) x1 x2 x3 σ
def xdX3_takeOff (K : XK) (p : Nat) (x1 : Int32) (x2 : Int32) (σ : MSt) : Option MSt :=
  xdX3_takeOff_2 K p sv_FU x1 x2 0 σ
abbrev rm_X0_cheapest : Room := { frames := 7, cells := 0, slots := 0, locals := 163 }
def xdX0_cheapest_171 (K : XK) (rk_94 : Int32 → Int32 → Int32 → Int32 → Int32 → MSt → Option (Int32 × MSt)) (x1 : Int32) (x3 : Int32) (x5 : Int32) (x6 : Int32) (x7 : Int32) (t0 : Int32) (σ : MSt) : Option (Int32 × MSt) :=
  rk_94 x1 x3 t0 (if x5 < x7 then x5 else x7) (x6 + 1) σ
def xdX0_cheapest_104b (K : XK) (rk_94 : Int32 → Int32 → Int32 → Int32 → Int32 → MSt → Option (Int32 × MSt)) (rk_104 : Int32 → Int32 → Int32 → Int32 → Int32 → Int32 → MSt → Option (Int32 × MSt)) (x1 : Int32) (x3 : Int32) (x4 : Int32) (x5 : Int32) (x6 : Int32) (x7 : Int32) (σ : MSt) : Option (Int32 × MSt) :=
  if 21 ≤ x7 then
    (xdX0_costOf K 1 σ).bind fun p15 =>
    if x5 ≤ p15.1 then
      xdX0_cheapest_171 K rk_94 x1 x3 x5 x6 p15.1 x4 p15.2
    else
      xdX0_cheapest_171 K rk_94 x1 x3 x5 x6 p15.1 x6 p15.2
  else
    (sv_ix x7 21).bind fun j17 =>
    if x6 ≤ 0 then
      (sv_ix x1 4).bind fun j19 =>
      rk_104 x1 x3 x4 x5 x6 (x7 + 1) (ms_a σ (j17 + (42 + 42 * 1)) j19 (vp_nar .boolean 0))
    else
      if x6 = 0 then none else
      if x7 - x7 / x6 * x6 = 0 then
        (sv_ix x1 4).bind fun j22 =>
        rk_104 x1 x3 x4 x5 x6 (x7 + 1) (ms_a σ (j17 + (42 + 42 * 1)) j22 (vp_nar .boolean 1))
      else
        (sv_ix x1 4).bind fun j21 =>
        rk_104 x1 x3 x4 x5 x6 (x7 + 1) (ms_a σ (j17 + (42 + 42 * 1)) j21 (vp_nar .boolean 0))
def xdX0_cheapest_104 (K : XK) (rk_94 : Int32 → Int32 → Int32 → Int32 → Int32 → MSt → Option (Int32 × MSt)) : Nat → Int32 → Int32 → Int32 → Int32 → Int32 → Int32 → MSt → Option (Int32 × MSt)
  | 0, _, _, _, _, _, _, _ => none
  | n + 1, x1, x3, x4, x5, x6, x7, σ => xdX0_cheapest_104b K rk_94 (xdX0_cheapest_104 K rk_94 n) x1 x3 x4 x5 x6 x7 σ
def xdX0_cheapest_94b (K : XK)  (rk_94 : Int32 → Int32 → Int32 → Int32 → Int32 → MSt → Option (Int32 × MSt)) (x1 : Int32) (x3 : Int32) (x4 : Int32) (x5 : Int32) (x6 : Int32) (σ : MSt) : Option (Int32 × MSt) :=
  if 21 < x6 then
    if x3 = 0 then
      some (x4, σ)
    else
      some (x5, σ)
  else
    xdX0_cheapest_104 K rk_94 sv_FU x1 x3 x4 x5 x6 0 σ
def xdX0_cheapest_94 (K : XK)  : Nat → Int32 → Int32 → Int32 → Int32 → Int32 → MSt → Option (Int32 × MSt)
  | 0, _, _, _, _, _, _ => none
  | n + 1, x1, x3, x4, x5, x6, σ => xdX0_cheapest_94b K (xdX0_cheapest_94 K n) x1 x3 x4 x5 x6 σ
def xdX0_cheapest_46b (K : XK)  (rk_46 : Int32 → Int32 → Int32 → Int32 → MSt → Option (Int32 × MSt)) (x1 : Int32) (x2 : Int32) (x3 : Int32) (x4 : Int32) (σ : MSt) : Option (Int32 × MSt) :=
  if 21 ≤ x4 then
    xdX0_cheapest_94 K sv_FU x1 x3 0 2147483647 0 σ
  else
    (xdX3_takeOff K 1 x4 x1 σ).bind fun s9 =>
    (sv_ix x4 21).bind fun j10 =>
    (sv_ix x2 4).bind fun j11 =>
    rk_46 x1 x2 x3 (x4 + 1) (ms_a s9 (j10 + (21 + 42 * 1)) j11 (vp_nar .byte x1.toInt8.toInt32))
def xdX0_cheapest_46 (K : XK)  : Nat → Int32 → Int32 → Int32 → Int32 → MSt → Option (Int32 × MSt)
  | 0, _, _, _, _, _ => none
  | n + 1, x1, x2, x3, x4, σ => xdX0_cheapest_46b K (xdX0_cheapest_46 K n) x1 x2 x3 x4 σ
def xdX0_cheapest (K : XK) (x1 : Int32) (x2 : Int32) (x3 : Int32) (σ : MSt) : Option (Int32 × MSt) :=
  (xdX0_isCoat K σ x1).bind fun r1 =>
  if r1 = 0 then
    some ((-2), σ)
  else
    (xdX0_isField K σ x2).bind fun r3 =>
    if r3 = 0 then
      some ((-2), σ)
    else
      (xdX0_in x3.toInt64 0 1).bind fun r5 =>
      if r5 = 0 then
        some ((-3), σ)
      else
        (xdX3_copy K 1 0 σ).bind fun s7 =>
        xdX0_cheapest_46 K sv_FU x1 x2 x3 0 s7
abbrev rm_X0_lossOf : Room := { frames := 6, cells := 0, slots := 0, locals := 142 }
def xdX0_lossOf_56 (K : XK) (rk_13 : Int32 → Int32 → MSt → Option (Int32 × MSt)) (rk_21 : Int32 → Int32 → Int32 → MSt → Option (Int32 × MSt)) (x1 : Int32) (x2 : Int32) (x3 : Int32) (t0 : Int32) (σ : MSt) : Option (Int32 × MSt) :=
  (sv_ix x2 21).bind fun j10 =>
  if t0 = 0 then
    (sv_ix x3 4).bind fun j12 =>
    rk_21 x1 x2 (x3 + 1) (ms_a σ (j10 + (21 + 42 * 1)) j12 (vp_nar .byte (-1)))
  else
    (sv_ix x2 21).bind fun j13 =>
    (sv_ix x3 4).bind fun j14 =>
    (sv_ix x3 4).bind fun j15 =>
    rk_21 x1 x2 (x3 + 1) (ms_a σ (j10 + (21 + 42 * 1)) j15 (vp_nar .byte (σ.2 (j13 + (21 + 42 * 1)) j14)))
def xdX0_lossOf_21b (K : XK) (rk_13 : Int32 → Int32 → MSt → Option (Int32 × MSt)) (rk_21 : Int32 → Int32 → Int32 → MSt → Option (Int32 × MSt)) (x1 : Int32) (x2 : Int32) (x3 : Int32) (σ : MSt) : Option (Int32 × MSt) :=
  if 4 ≤ x3 then
    rk_13 x1 (x2 + 1) σ
  else
    (xdX0_isField K σ x3).bind fun r5 =>
    if r5 = 0 then
      xdX0_lossOf_56 K rk_13 rk_21 x1 x2 x3 0 σ
    else
      (sv_ix x3 4).bind fun j7 =>
      (K.1 j7).bind fun v8 =>
      if (x1 >>> (v8.2.2 &&& 31)) &&& 1 = 1 then
        xdX0_lossOf_56 K rk_13 rk_21 x1 x2 x3 1 σ
      else
        xdX0_lossOf_56 K rk_13 rk_21 x1 x2 x3 0 σ
def xdX0_lossOf_21 (K : XK) (rk_13 : Int32 → Int32 → MSt → Option (Int32 × MSt)) : Nat → Int32 → Int32 → Int32 → MSt → Option (Int32 × MSt)
  | 0, _, _, _, _ => none
  | n + 1, x1, x2, x3, σ => xdX0_lossOf_21b K rk_13 (xdX0_lossOf_21 K rk_13 n) x1 x2 x3 σ
def xdX0_lossOf_13b (K : XK)  (rk_13 : Int32 → Int32 → MSt → Option (Int32 × MSt)) (x1 : Int32) (x2 : Int32) (σ : MSt) : Option (Int32 × MSt) :=
  if 21 ≤ x2 then
    (xdX4_run K 0 1 (σ.1 7) σ).bind fun p3 =>
    some (p3.1, p3.2)
  else
    xdX0_lossOf_21 K rk_13 sv_FU x1 x2 0 σ
def xdX0_lossOf_13 (K : XK)  : Nat → Int32 → Int32 → MSt → Option (Int32 × MSt)
  | 0, _, _, _ => none
  | n + 1, x1, x2, σ => xdX0_lossOf_13b K (xdX0_lossOf_13 K n) x1 x2 σ
def xdX0_lossOf (K : XK) (x1 : Int32) (σ : MSt) : Option (Int32 × MSt) :=
  (xdX3_copy K 1 0 σ).bind fun s1 =>
  xdX0_lossOf_13 K sv_FU x1 0 s1
abbrev rm_X0_saved : Room := { frames := 7, cells := 0, slots := 0, locals := 166 }
def xdX0_saved (K : XK) (x1 : Int32) (σ : MSt) : Option (Int32 × MSt) :=
  (xdX0_in x1.toInt64 0 15).bind fun r1 =>
  if r1 = 0 then
    some ((-3), σ)
  else
    (xdX0_lossOf K 0 σ).bind fun p3 =>
    (xdX0_lossOf K x1 p3.2).bind fun p4 =>
    some (((p3.1 - p4.1) + 100000), p4.2)
abbrev rm_J15_bitCount : Room := { frames := 0, cells := 0, slots := 0, locals := 0 }
def jd_J15_bitCount  (x0 : Int32) : Option Int32 :=
  some ((((((((x0 - (((x0.toUInt32 >>> ((1 : Int32).toUInt32 &&& Int32.toUInt32 31)).toInt32) &&& 1431655765)) &&& 858993459) + ((((x0 - (((x0.toUInt32 >>> ((1 : Int32).toUInt32 &&& Int32.toUInt32 31)).toInt32) &&& 1431655765)).toUInt32 >>> ((2 : Int32).toUInt32 &&& Int32.toUInt32 31)).toInt32) &&& 858993459)) + (((((x0 - (((x0.toUInt32 >>> ((1 : Int32).toUInt32 &&& Int32.toUInt32 31)).toInt32) &&& 1431655765)) &&& 858993459) + ((((x0 - (((x0.toUInt32 >>> ((1 : Int32).toUInt32 &&& Int32.toUInt32 31)).toInt32) &&& 1431655765)).toUInt32 >>> ((2 : Int32).toUInt32 &&& Int32.toUInt32 31)).toInt32) &&& 858993459)).toUInt32 >>> ((4 : Int32).toUInt32 &&& Int32.toUInt32 31)).toInt32)) &&& 252645135) + (((((((x0 - (((x0.toUInt32 >>> ((1 : Int32).toUInt32 &&& Int32.toUInt32 31)).toInt32) &&& 1431655765)) &&& 858993459) + ((((x0 - (((x0.toUInt32 >>> ((1 : Int32).toUInt32 &&& Int32.toUInt32 31)).toInt32) &&& 1431655765)).toUInt32 >>> ((2 : Int32).toUInt32 &&& Int32.toUInt32 31)).toInt32) &&& 858993459)) + (((((x0 - (((x0.toUInt32 >>> ((1 : Int32).toUInt32 &&& Int32.toUInt32 31)).toInt32) &&& 1431655765)) &&& 858993459) + ((((x0 - (((x0.toUInt32 >>> ((1 : Int32).toUInt32 &&& Int32.toUInt32 31)).toInt32) &&& 1431655765)).toUInt32 >>> ((2 : Int32).toUInt32 &&& Int32.toUInt32 31)).toInt32) &&& 858993459)).toUInt32 >>> ((4 : Int32).toUInt32 &&& Int32.toUInt32 31)).toInt32)) &&& 252645135).toUInt32 >>> ((8 : Int32).toUInt32 &&& Int32.toUInt32 31)).toInt32)) + ((((((((x0 - (((x0.toUInt32 >>> ((1 : Int32).toUInt32 &&& Int32.toUInt32 31)).toInt32) &&& 1431655765)) &&& 858993459) + ((((x0 - (((x0.toUInt32 >>> ((1 : Int32).toUInt32 &&& Int32.toUInt32 31)).toInt32) &&& 1431655765)).toUInt32 >>> ((2 : Int32).toUInt32 &&& Int32.toUInt32 31)).toInt32) &&& 858993459)) + (((((x0 - (((x0.toUInt32 >>> ((1 : Int32).toUInt32 &&& Int32.toUInt32 31)).toInt32) &&& 1431655765)) &&& 858993459) + ((((x0 - (((x0.toUInt32 >>> ((1 : Int32).toUInt32 &&& Int32.toUInt32 31)).toInt32) &&& 1431655765)).toUInt32 >>> ((2 : Int32).toUInt32 &&& Int32.toUInt32 31)).toInt32) &&& 858993459)).toUInt32 >>> ((4 : Int32).toUInt32 &&& Int32.toUInt32 31)).toInt32)) &&& 252645135) + (((((((x0 - (((x0.toUInt32 >>> ((1 : Int32).toUInt32 &&& Int32.toUInt32 31)).toInt32) &&& 1431655765)) &&& 858993459) + ((((x0 - (((x0.toUInt32 >>> ((1 : Int32).toUInt32 &&& Int32.toUInt32 31)).toInt32) &&& 1431655765)).toUInt32 >>> ((2 : Int32).toUInt32 &&& Int32.toUInt32 31)).toInt32) &&& 858993459)) + (((((x0 - (((x0.toUInt32 >>> ((1 : Int32).toUInt32 &&& Int32.toUInt32 31)).toInt32) &&& 1431655765)) &&& 858993459) + ((((x0 - (((x0.toUInt32 >>> ((1 : Int32).toUInt32 &&& Int32.toUInt32 31)).toInt32) &&& 1431655765)).toUInt32 >>> ((2 : Int32).toUInt32 &&& Int32.toUInt32 31)).toInt32) &&& 858993459)).toUInt32 >>> ((4 : Int32).toUInt32 &&& Int32.toUInt32 31)).toInt32)) &&& 252645135).toUInt32 >>> ((8 : Int32).toUInt32 &&& Int32.toUInt32 31)).toInt32)).toUInt32 >>> ((16 : Int32).toUInt32 &&& Int32.toUInt32 31)).toInt32)) &&& 63)
abbrev rm_X0_part : Room := { frames := 0, cells := 0, slots := 0, locals := 0 }
def xdX0_part_6b   (rk_6 : Int64 → Int64 → Int32 → Int64 → Int64 → Option Int64) (x0 : Int64) (x2 : Int64) (x4 : Int32) (x5 : Int64) (x7 : Int64) : Option Int64 :=
  if lg_cmp x7 0 = 0 then
    if x4 = 0 then
      if x5 = 0 then none else
      some (x0 / x5)
    else
      if x5 = 0 then none else
      some (x2 / x5)
  else
    if x7 = 0 then none else
    rk_6 x0 x2 x4 x7 (x5 - x5 / x7 * x7)
def xdX0_part_6   : Nat → Int64 → Int64 → Int32 → Int64 → Int64 → Option Int64
  | 0, _, _, _, _, _ => none
  | n + 1, x0, x2, x4, x5, x7 => xdX0_part_6b (xdX0_part_6 n) x0 x2 x4 x5 x7
def xdX0_part  (x0 : Int64) (x2 : Int64) (x4 : Int32) : Option Int64 :=
  xdX0_part_6 sv_FU x0 x2 x4 x0 x2
abbrev rm_X0_fair : Room := { frames := 7, cells := 0, slots := 0, locals := 166 }
def xdX0_fair_73 (K : XK) (rk_33 : Int32 → Int32 → Int32 → Int32 → MSt → Option (Int32 × MSt)) (x1 : Int32) (x2 : Int32) (x3 : Int32) (x4 : Int32) (t0 : Int32) (σ : MSt) : Option (Int32 × MSt) :=
  (xdX0_lossOf K x4 σ).bind fun p11 =>
  (xdX0_lossOf K (x4 ||| ((1 : Int32) <<< (x1 &&& 31))) p11.2).bind fun p12 =>
  rk_33 x1 x2 (x3 + (t0 * (p11.1 - p12.1))) (x4 + 1) p12.2
def xdX0_fair_33b (K : XK)  (rk_33 : Int32 → Int32 → Int32 → Int32 → MSt → Option (Int32 × MSt)) (x1 : Int32) (x2 : Int32) (x3 : Int32) (x4 : Int32) (σ : MSt) : Option (Int32 × MSt) :=
  if 15 < x4 then
    (xdX0_part ((x3 + 2400000).toInt64) 24 x2).bind fun r6 =>
    some (r6.toInt32, σ)
  else
    if (x4 >>> (x1 &&& 31)) &&& 1 = 0 then
      (jd_J15_bitCount x4).bind fun r8 =>
      if r8 = 0 then
        xdX0_fair_73 K rk_33 x1 x2 x3 x4 6 σ
      else
        if r8 = 3 then
          xdX0_fair_73 K rk_33 x1 x2 x3 x4 6 σ
        else
          xdX0_fair_73 K rk_33 x1 x2 x3 x4 2 σ
    else
      rk_33 x1 x2 x3 (x4 + 1) σ
def xdX0_fair_33 (K : XK)  : Nat → Int32 → Int32 → Int32 → Int32 → MSt → Option (Int32 × MSt)
  | 0, _, _, _, _, _ => none
  | n + 1, x1, x2, x3, x4, σ => xdX0_fair_33b K (xdX0_fair_33 K n) x1 x2 x3 x4 σ
def xdX0_fair (K : XK) (x1 : Int32) (x2 : Int32) (σ : MSt) : Option (Int32 × MSt) :=
  (xdX0_in x1.toInt64 0 3).bind fun r1 =>
  if r1 = 0 then
    some ((-2), σ)
  else
    (xdX0_in x2.toInt64 0 1).bind fun r3 =>
    if r3 = 0 then
      some ((-3), σ)
    else
      xdX0_fair_33 K sv_FU x1 x2 0 0 σ
abbrev rm_X0_lossIn : Room := { frames := 7, cells := 0, slots := 0, locals := 166 }
def xdX0_lossIn_9b (K : XK)  (rk_9 : Int32 → Int32 → Int32 → MSt → Option (Int32 × MSt)) (x1 : Int32) (x3 : Int32) (x4 : Int32) (σ : MSt) : Option (Int32 × MSt) :=
  if 4 ≤ x4 then
    some (x3, σ)
  else
    (xdX0_isField K σ x4).bind fun r3 =>
    if r3 = 0 then
      rk_9 x1 (x3 - 0) (x4 + 1) σ
    else
      (sv_ix x4 4).bind fun j5 =>
      (K.1 j5).bind fun v6 =>
      if v6.2.2 = x1 then
        rk_9 x1 (x3 - 0) (x4 + 1) σ
      else
        (sv_ix x4 4).bind fun j8 =>
        (K.1 j8).bind fun v9 =>
        (sv_ix x4 4).bind fun j10 =>
        rk_9 x1 (x3 - (v9.1 - (σ.2 (7 * 0) j10))) (x4 + 1) σ
def xdX0_lossIn_9 (K : XK)  : Nat → Int32 → Int32 → Int32 → MSt → Option (Int32 × MSt)
  | 0, _, _, _, _ => none
  | n + 1, x1, x3, x4, σ => xdX0_lossIn_9b K (xdX0_lossIn_9 K n) x1 x3 x4 σ
def xdX0_lossIn (K : XK) (x1 : Int32) (x2 : Int32) (σ : MSt) : Option (Int32 × MSt) :=
  (xdX0_lossOf K x2 σ).bind fun p1 =>
  xdX0_lossIn_9 K sv_FU x1 p1.1 0 p1.2
abbrev rm_X0_free : Room := { frames := 8, cells := 0, slots := 0, locals := 190 }
def xdX0_free (K : XK) (x1 : Int32) (σ : MSt) : Option (Int32 × MSt) :=
  (xdX0_in x1.toInt64 0 3).bind fun r1 =>
  if r1 = 0 then
    some ((-2), σ)
  else
    (xdX0_lossIn K x1 (15 &&& (((1 : Int32) <<< (x1 &&& 31)) ^^^ (-1))) σ).bind fun p3 =>
    (xdX0_lossIn K x1 0 p3.2).bind fun p4 =>
    some (((p3.1 - p4.1) + 100000), p4.2)
abbrev rm_X0_matters : Room := { frames := 6, cells := 0, slots := 0, locals := 142 }
def xdX0_matters_47b (K : XK) (rk_20 : Int32 → Int32 → Int32 → MSt → Option (Int32 × MSt)) (rk_47 : Int32 → Int32 → Int32 → Int32 → MSt → Option (Int32 × MSt)) (x1 : Int32) (x2 : Int32) (x3 : Int32) (x4 : Int32) (σ : MSt) : Option (Int32 × MSt) :=
  if 21 ≤ x4 then
    (xdX4_run K 0 1 (σ.1 7) σ).bind fun p7 =>
    if p7.1 = x1 then
      rk_20 x1 (x2 ||| 0) (x3 + 1) p7.2
    else
      rk_20 x1 (x2 ||| ((1 : Int32) <<< (x3 &&& 31))) (x3 + 1) p7.2
  else
    (xdX3_takeOff K 1 x4 x3 σ).bind fun s9 =>
    rk_47 x1 x2 x3 (x4 + 1) s9
def xdX0_matters_47 (K : XK) (rk_20 : Int32 → Int32 → Int32 → MSt → Option (Int32 × MSt)) : Nat → Int32 → Int32 → Int32 → Int32 → MSt → Option (Int32 × MSt)
  | 0, _, _, _, _, _ => none
  | n + 1, x1, x2, x3, x4, σ => xdX0_matters_47b K rk_20 (xdX0_matters_47 K rk_20 n) x1 x2 x3 x4 σ
def xdX0_matters_20b (K : XK)  (rk_20 : Int32 → Int32 → Int32 → MSt → Option (Int32 × MSt)) (x1 : Int32) (x2 : Int32) (x3 : Int32) (σ : MSt) : Option (Int32 × MSt) :=
  if 4 ≤ x3 then
    some (x2, σ)
  else
    (xdX0_isCoat K σ x3).bind fun r3 =>
    if r3 = 0 then
      rk_20 x1 x2 (x3 + 1) σ
    else
      (xdX3_copy K 1 0 σ).bind fun s5 =>
      xdX0_matters_47 K rk_20 sv_FU x1 x2 x3 0 s5
def xdX0_matters_20 (K : XK)  : Nat → Int32 → Int32 → Int32 → MSt → Option (Int32 × MSt)
  | 0, _, _, _, _ => none
  | n + 1, x1, x2, x3, σ => xdX0_matters_20b K (xdX0_matters_20 K n) x1 x2 x3 σ
def xdX0_matters (K : XK) (σ : MSt) : Option (Int32 × MSt) :=
  (xdX4_run K 0 0 (σ.1 7) σ).bind fun p1 =>
  xdX0_matters_20 K sv_FU p1.1 0 0 p1.2
abbrev rm_X0_holds : Room := { frames := 5, cells := 0, slots := 0, locals := 118 }
def xdX0_holds_119 (K : XK) (rk_11 : Int32 → MSt → Option (Int32 × MSt)) (rk_54 : Int32 → Int32 → MSt → Option (Int32 × MSt)) (x3 : Int32) (x4 : Int32) (t0 : Int32) (t1 : Int32) (σ : MSt) : Option (Int32 × MSt) :=
  if t0 = t1 then
    rk_54 x3 (x4 + 1) σ
  else
    some (0, σ)
def xdX0_holds_54b (K : XK) (rk_11 : Int32 → MSt → Option (Int32 × MSt)) (rk_54 : Int32 → Int32 → MSt → Option (Int32 × MSt)) (x3 : Int32) (x4 : Int32) (σ : MSt) : Option (Int32 × MSt) :=
  if Int32.ofNat K.2.2.2.length ≤ x4 then
    rk_11 (x3 + 1) σ
  else
    (sv_ix x4 K.2.2.2.length).bind fun j8 =>
    (K.2.2.2[j8]?).bind fun v9 =>
    if v9.1 = x3 then
      (K.2.2.2[j8]?).bind fun v11 =>
      if σ.1 7 ≤ x3 then
        xdX0_holds_119 K rk_11 rk_54 x3 x4 v11.2.2 0 σ
      else
        (K.2.2.2[j8]?).bind fun v13 =>
        (sv_ix v13.2.1 4).bind fun j14 =>
        xdX0_holds_119 K rk_11 rk_54 x3 x4 v11.2.2 (σ.2 (7 * 0 + 6) j14) σ
    else
      rk_54 x3 (x4 + 1) σ
def xdX0_holds_54 (K : XK) (rk_11 : Int32 → MSt → Option (Int32 × MSt)) : Nat → Int32 → Int32 → MSt → Option (Int32 × MSt)
  | 0, _, _, _ => none
  | n + 1, x3, x4, σ => xdX0_holds_54b K rk_11 (xdX0_holds_54 K rk_11 n) x3 x4 σ
def xdX0_holds_11b (K : XK)  (rk_11 : Int32 → MSt → Option (Int32 × MSt)) (x3 : Int32) (σ : MSt) : Option (Int32 × MSt) :=
  if 21 ≤ x3 then
    some (1, σ)
  else
    if σ.1 7 ≤ x3 then
      xdX0_holds_54 K rk_11 sv_FU x3 0 σ
    else
      (sv_ix x3 21).bind fun j4 =>
      (sv_ix x3 21).bind fun j5 =>
      (xdX4_go K 0 (j4 + (21 + 42 * 0)) (j5 + (42 + 42 * 0)) σ).bind fun p6 =>
      xdX0_holds_54 K rk_11 sv_FU x3 0 p6.2
def xdX0_holds_11 (K : XK)  : Nat → Int32 → MSt → Option (Int32 × MSt)
  | 0, _, _ => none
  | n + 1, x3, σ => xdX0_holds_11b K (xdX0_holds_11 K n) x3 σ
def xdX0_holds (K : XK) (x1 : Int32) (x2 : Int32) (σ : MSt) : Option (Int32 × MSt) :=
  (xdX4_begin_2 K 0 x1 x2 σ).bind fun s1 =>
  xdX0_holds_11 K sv_FU 0 s1
abbrev rm_X0_learnt : Room := { frames := 6, cells := 0, slots := 0, locals := 143 }
def xdX0_learnt_32b (K : XK) (rk_22 : Int32 → Int32 → Int32 → Int32 → MSt → Option (Int32 × MSt)) (rk_32 : Int32 → Int32 → Int32 → Int32 → Int32 → MSt → Option (Int32 × MSt)) (x1 : Int32) (x2 : Int32) (x3 : Int32) (x4 : Int32) (x5 : Int32) (σ : MSt) : Option (Int32 × MSt) :=
  if 100 < x5 then
    rk_22 x1 x2 x3 (x4 + 1) σ
  else
    (xdX0_holds K x4 x5 σ).bind fun p8 =>
    if p8.1 = 0 then
      rk_32 x1 x2 x3 x4 (x5 + 10) p8.2
    else
      if x2 = 0 then
        rk_32 x1 (x2 + 1) ((1000 * x4) + x5) x4 (x5 + 10) p8.2
      else
        rk_32 x1 (x2 + 1) x3 x4 (x5 + 10) p8.2
def xdX0_learnt_32 (K : XK) (rk_22 : Int32 → Int32 → Int32 → Int32 → MSt → Option (Int32 × MSt)) : Nat → Int32 → Int32 → Int32 → Int32 → Int32 → MSt → Option (Int32 × MSt)
  | 0, _, _, _, _, _, _ => none
  | n + 1, x1, x2, x3, x4, x5, σ => xdX0_learnt_32b K rk_22 (xdX0_learnt_32 K rk_22 n) x1 x2 x3 x4 x5 σ
def xdX0_learnt_22b (K : XK)  (rk_22 : Int32 → Int32 → Int32 → Int32 → MSt → Option (Int32 × MSt)) (x1 : Int32) (x2 : Int32) (x3 : Int32) (x4 : Int32) (σ : MSt) : Option (Int32 × MSt) :=
  if 100 ≤ x4 then
    if x1 = 0 then
      some (x2, σ)
    else
      if x3 = (-1) then
        some ((-1), σ)
      else
        if x1 = 1 then
          some ((x3 / 1000), σ)
        else
          some ((x3 - x3 / 1000 * 1000), σ)
  else
    xdX0_learnt_32 K rk_22 sv_FU x1 x2 x3 x4 0 σ
def xdX0_learnt_22 (K : XK)  : Nat → Int32 → Int32 → Int32 → Int32 → MSt → Option (Int32 × MSt)
  | 0, _, _, _, _, _ => none
  | n + 1, x1, x2, x3, x4, σ => xdX0_learnt_22b K (xdX0_learnt_22 K n) x1 x2 x3 x4 σ
def xdX0_learnt (K : XK) (x1 : Int32) (σ : MSt) : Option (Int32 × MSt) :=
  (xdX0_in x1.toInt64 0 2).bind fun r1 =>
  if r1 = 0 then
    some ((-3), σ)
  else
    xdX0_learnt_22 K sv_FU x1 0 (-1) 0 σ
abbrev rm_X0_toldOf : Room := { frames := 0, cells := 0, slots := 0, locals := 0 }
def xdX0_toldOf_10b (n0 : Nat) (u : Nat → Bool)  (rk_10 : Int32 → Int32 → Int32 → Option Int32) (x1 : Int32) (x3 : Int32) (x4 : Int32) : Option Int32 :=
  if x3 ≤ x4 then
    some x1
  else
    (sv_ix x4 n0).bind fun j2 =>
    if u j2 = false then
      rk_10 (x1 + 0) x3 (x4 + 1)
    else
      rk_10 (x1 + 1) x3 (x4 + 1)
def xdX0_toldOf_10 (n0 : Nat) (u : Nat → Bool)  : Nat → Int32 → Int32 → Int32 → Option Int32
  | 0, _, _, _ => none
  | n + 1, x1, x3, x4 => xdX0_toldOf_10b n0 u (xdX0_toldOf_10 n0 u n) x1 x3 x4
def xdX0_toldOf (n0 : Nat) (u : Nat → Bool)  : Option Int32 :=
  xdX0_toldOf_10 n0 u sv_FU 0 (Int32.ofNat n0) 0
abbrev rm_X0_count : Room := { frames := 1, cells := 0, slots := 0, locals := 25 }
def xdX0_count (K : XK) (σ : MSt) (x1 : Int32) : Option Int32 :=
  if x1 = 0 then
    (xdX0_toldOf 4 (fun j => (K.1 j).isSome)).bind fun r2 =>
    some r2
  else
    if x1 = 1 then
      (xdX0_toldOf 4 (fun j => (K.2.1 j).isSome)).bind fun r4 =>
      some r4
    else
      if x1 = 2 then
        (xdX0_toldOf 4 (fun j => (K.2.2.1 j).isSome)).bind fun r6 =>
        some r6
      else
        if x1 = 3 then
          some (σ.1 14)
        else
          if x1 = 4 then
            some (σ.1 4)
          else
            if x1 = 5 then
              some (σ.1 5)
            else
              if x1 = 6 then
                some (σ.1 6)
              else
                if x1 = 7 then
                  some (σ.1 7)
                else
                  if x1 = 8 then
                    some (Int32.ofNat K.2.2.2.length)
                  else
                    some (-3)
