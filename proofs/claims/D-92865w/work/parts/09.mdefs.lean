/-! THE MODEL's METHODS AS FUNCTIONS (printed by gen_model.py out of the decode rows): none where the machine would throw or go on past the fuel -/
def ms_s (σ : MSt) (k : Nat) (v : Int32) : MSt := (upd σ.1 k v, σ.2)
def ms_a (σ : MSt) (k j : Nat) (x : Int32) : MSt := (σ.1, sv_u2 σ.2 k j x)
abbrev rm_X6_in : Room := { frames := 0, cells := 0, slots := 0, locals := 0 }
def md_in  (x0 : Int64) (x2 : Int64) (x4 : Int64) : Option Int32 :=
  if lg_cmp x0 x2 < 0 then
    some 0
  else
    if 0 < lg_cmp x0 x4 then
      some 0
    else
      some 1
abbrev rm_X6_write : Room := { frames := 1, cells := 0, slots := 0, locals := 25 }
def md_write_33b   (rk_33 : Int64 → Int32 → Int32 → MSt → Option (Int32 × MSt)) (x1 : Int64) (x3 : Int32) (x4 : Int32) (σ : MSt) : Option (Int32 × MSt) :=
  if x3 ≤ x4 then
    some ((σ.1 1), σ)
  else
    (sv_ix (σ.1 1) 200).bind fun j5 =>
    rk_33 x1 x3 (x4 + 1) (ms_s (ms_a σ 0 j5 (((x1 >>> ((8 * x4).toInt64 &&& 63)) &&& 255).toInt32)) 1 ((σ.1 1) + 1))
def md_write_33   : Nat → Int64 → Int32 → Int32 → MSt → Option (Int32 × MSt)
  | 0, _, _, _, _ => none
  | n + 1, x1, x3, x4, σ => md_write_33b (md_write_33 n) x1 x3 x4 σ
def md_write  (x1 : Int64) (x3 : Int32) (σ : MSt) : Option (Int32 × MSt) :=
  (md_in x3.toInt64 1 8).bind fun r1 =>
  if r1 = 0 then
    some ((-3), σ)
  else
    if (σ.1 1) + x3 ≤ 200 then
      md_write_33 sv_FU x1 x3 0 σ
    else
      some ((-5), σ)
abbrev rm_X6_erase : Room := { frames := 0, cells := 0, slots := 0, locals := 0 }
def md_erase  (σ : MSt) : Option (Int32 × MSt) :=
  some ((σ.1 1), (ms_s σ 1 0))
abbrev rm_X6_sort : Room := { frames := 0, cells := 0, slots := 0, locals := 0 }
def md_sort_16   (x0 : Int32) : Option Int32 :=
  if x0 < 48 then
    some 0
  else
    if 57 < x0 then
      some 0
    else
      some 2
def md_sort  (x0 : Int32) : Option Int32 :=
  if x0 < 97 then
    md_sort_16 x0
  else
    if 122 < x0 then
      md_sort_16 x0
    else
      some 1
abbrev rm_X6_token : Room := { frames := 1, cells := 0, slots := 0, locals := 20 }
def md_token_71b   (rk_71 : MSt → Option MSt) (σ : MSt) : Option MSt :=
  if σ.1 1 ≤ σ.1 21 then
    some (ms_s σ 23 (σ.1 21))
  else
    (sv_ix (σ.1 22) 200).bind fun j6 =>
    (md_sort (σ.2 0 j6)).bind fun r7 =>
    if r7 ≤ 0 then
      some (ms_s σ 23 (σ.1 21))
    else
      (sv_ix (σ.1 21) 200).bind fun j9 =>
      (md_sort (σ.2 0 j9)).bind fun r10 =>
      (sv_ix (σ.1 22) 200).bind fun j11 =>
      (md_sort (σ.2 0 j11)).bind fun r12 =>
      if r10 = r12 then
        rk_71 (ms_s σ 21 ((σ.1 21) + 1))
      else
        some (ms_s σ 23 (σ.1 21))
def md_token_71   : Nat → MSt → Option MSt
  | 0, _ => none
  | n + 1, σ => md_token_71b (md_token_71 n) σ
def md_token_38   (σ : MSt) : Option MSt :=
  if σ.1 1 ≤ σ.1 21 then
    md_token_71 sv_FU (ms_s (ms_s σ 22 (σ.1 21)) 21 ((σ.1 21) + 0))
  else
    md_token_71 sv_FU (ms_s (ms_s σ 22 (σ.1 21)) 21 ((σ.1 21) + 1))
def md_token_0b   (rk_0 : MSt → Option MSt) (σ : MSt) : Option MSt :=
  if σ.1 1 ≤ σ.1 21 then
    md_token_38 σ
  else
    (sv_ix (σ.1 21) 200).bind fun j2 =>
    if σ.2 0 j2 = 32 then
      rk_0 (ms_s σ 21 ((σ.1 21) + 1))
    else
      md_token_38 σ
def md_token_0   : Nat → MSt → Option MSt
  | 0, _ => none
  | n + 1, σ => md_token_0b (md_token_0 n) σ
def md_token  (σ : MSt) : Option MSt := md_token_0 sv_FU σ
abbrev rm_X6_isWord : Room := { frames := 0, cells := 0, slots := 0, locals := 0 }
def md_isWord_22b (σ : MSt)  (rk_22 : Int32 → Int32 → Int32 → Int32 → Option Int32) (x1 : Int32) (x2 : Int32) (x3 : Int32) (x4 : Int32) : Option Int32 :=
  if x3 = 0 then
    (sv_zb x3).bind fun b3 => some b3
  else
    if x2 ≤ x4 then
      (sv_zb x3).bind fun b5 => some b5
    else
      (sv_ix ((σ.1 22) + x4) 200).bind fun j6 =>
      if σ.2 0 j6 = 96 + ((x1 >>> ((5 * x4) &&& 31)) &&& 31) then
        rk_22 x1 x2 1 (x4 + 1)
      else
        rk_22 x1 x2 0 (x4 + 1)
def md_isWord_22 (σ : MSt)  : Nat → Int32 → Int32 → Int32 → Int32 → Option Int32
  | 0, _, _, _, _ => none
  | n + 1, x1, x2, x3, x4 => md_isWord_22b σ (md_isWord_22 σ n) x1 x2 x3 x4
def md_isWord (σ : MSt) (x1 : Int32) (x2 : Int32) : Option Int32 :=
  if (σ.1 23) - (σ.1 22) = x2 then
    md_isWord_22 σ sv_FU x1 x2 1 0
  else
    md_isWord_22 σ sv_FU x1 x2 0 0
abbrev rm_X6_reads : Room := { frames := 2, cells := 0, slots := 0, locals := 40 }
def md_reads_51b   (rk_51 : Int32 → Int32 → Int32 → Int32 → Int32 → MSt → Option (Int32 × MSt)) (x1 : Int32) (x2 : Int32) (x3 : Int32) (x4 : Int32) (x5 : Int32) (σ : MSt) : Option (Int32 × MSt) :=
  if σ.1 23 ≤ x5 then
    (md_in x4.toInt64 x2.toInt64 x3.toInt64).bind fun r7 =>
    if r7 = 0 then
      some (0, σ)
    else
      (sv_ix (((5 * (σ.1 3)) + 1) + x1) 50).bind fun j9 =>
      (md_token (ms_a σ 2 j9 x4)).bind fun s10 =>
      some (1, s10)
  else
    (sv_ix x5 200).bind fun j11 =>
    rk_51 x1 x2 x3 (((10 * x4) + (σ.2 0 j11)) - 48) (x5 + 1) σ
def md_reads_51   : Nat → Int32 → Int32 → Int32 → Int32 → Int32 → MSt → Option (Int32 × MSt)
  | 0, _, _, _, _, _, _ => none
  | n + 1, x1, x2, x3, x4, x5, σ => md_reads_51b (md_reads_51 n) x1 x2 x3 x4 x5 σ
def md_reads  (x1 : Int32) (x2 : Int32) (x3 : Int32) (σ : MSt) : Option (Int32 × MSt) :=
  if σ.1 22 = σ.1 1 then
    some (0, σ)
  else
    (sv_ix (σ.1 22) 200).bind fun j2 =>
    (md_sort (σ.2 0 j2)).bind fun r3 =>
    if r3 = 2 then
      if (σ.1 23) - (σ.1 22) ≤ 3 then
        md_reads_51 sv_FU x1 x2 x3 0 (σ.1 22) σ
      else
        some (0, σ)
    else
      some (0, σ)
abbrev rm_X6_readsRest : Room := { frames := 3, cells := 0, slots := 0, locals := 65 }
def md_readsRest  (x1 : Int32) (σ : MSt) : Option (Int32 × MSt) :=
  if x1 = 0 then
    (md_reads 0 0 3 σ).bind fun p2 =>
    if p2.1 = 0 then
      some (0, p2.2)
    else
      (md_reads 1 0 999 p2.2).bind fun p4 =>
      if p4.1 = 0 then
        some (0, p4.2)
      else
        (md_reads 2 0 999 p4.2).bind fun p6 =>
        if p6.1 = 0 then
          some (0, p6.2)
        else
          (md_reads 3 0 3 p6.2).bind fun p8 =>
          if p8.1 = 0 then
            some (0, p8.2)
          else
            some (1, p8.2)
  else
    if x1 = 1 then
      (md_reads 0 0 3 σ).bind fun p11 =>
      if p11.1 = 0 then
        some (0, p11.2)
      else
        (md_reads 1 1 99 p11.2).bind fun p13 =>
        if p13.1 = 0 then
          some (0, p13.2)
        else
          some (1, p13.2)
    else
      if x1 = 2 then
        (md_reads 0 0 3 σ).bind fun p16 =>
        if p16.1 = 0 then
          some (0, p16.2)
        else
          (md_reads 1 0 999 p16.2).bind fun p18 =>
          if p18.1 = 0 then
            some (0, p18.2)
          else
            (md_reads 2 0 99 p18.2).bind fun p20 =>
            if p20.1 = 0 then
              some (0, p20.2)
            else
              some (1, p20.2)
      else
        if x1 = 3 then
          (md_reads 0 0 100 σ).bind fun p23 =>
          (sv_zb p23.1).bind fun b24 => some (b24, p23.2)
        else
          if x1 = 4 then
            (md_reads 0 0 999 σ).bind fun p26 =>
            (sv_zb p26.1).bind fun b27 => some (b27, p26.2)
          else
            if x1 = 5 then
              (md_reads 0 1 9 σ).bind fun p29 =>
              (sv_zb p29.1).bind fun b30 => some (b30, p29.2)
            else
              if x1 = 6 then
                (md_reads 0 1 21 σ).bind fun p32 =>
                (sv_zb p32.1).bind fun b33 => some (b33, p32.2)
              else
                (md_reads 0 0 3 σ).bind fun p34 =>
                (sv_zb p34.1).bind fun b35 => some (b35, p34.2)
abbrev rm_X6_readsLine : Room := { frames := 4, cells := 0, slots := 0, locals := 86 }
def md_readsLine_115   (t0 : Int32) (σ : MSt) : Option (Int32 × MSt) :=
  if t0 = (-1) then
    some (0, σ)
  else
    (md_token σ).bind fun s18 =>
    (sv_ix (5 * (s18.1 3)) 50).bind fun j19 =>
    (md_readsRest t0 (ms_a s18 2 j19 t0)).bind fun p20 =>
    if p20.1 = 0 then
      some (0, p20.2)
    else
      some (1, (ms_s p20.2 3 ((p20.2.1 3) + 1)))
def md_readsLine  (σ : MSt) : Option (Int32 × MSt) :=
  (md_isWord σ 4592934 5).bind fun r1 =>
  if r1 = 0 then
    (md_isWord σ 11648390 5).bind fun r3 =>
    if r3 = 0 then
      (md_isWord σ 656867 4).bind fun r5 =>
      if r5 = 0 then
        (md_isWord σ 405684 4).bind fun r7 =>
        if r7 = 0 then
          (md_isWord σ 171063 4).bind fun r9 =>
          if r9 = 0 then
            (md_isWord σ 5350992 5).bind fun r11 =>
            if r11 = 0 then
              (md_isWord σ 648228 4).bind fun r13 =>
              if r13 = 0 then
                (md_isWord σ 182306 4).bind fun r15 =>
                if r15 = 0 then
                  md_readsLine_115 (-1) σ
                else
                  md_readsLine_115 7 σ
              else
                md_readsLine_115 6 σ
            else
              md_readsLine_115 5 σ
          else
            md_readsLine_115 4 σ
        else
          md_readsLine_115 3 σ
      else
        md_readsLine_115 2 σ
    else
      md_readsLine_115 1 σ
  else
    md_readsLine_115 0 σ
abbrev rm_X6_fault : Room := { frames := 5, cells := 0, slots := 0, locals := 107 }
def md_fault_92  (rk_26 : MSt → Option (Int32 × MSt)) (x1 : Int32) (σ : MSt) : Option (Int32 × MSt) :=
  if x1 = 0 then
    some ((σ.1 22), σ)
  else
    rk_26 σ
def md_fault_78  (rk_26 : MSt → Option (Int32 × MSt)) (t0 : Int32) (σ : MSt) : Option (Int32 × MSt) :=
  if t0 = 0 then
    md_fault_92 rk_26 t0 σ
  else
    (md_token σ).bind fun s10 =>
    (md_readsLine s10).bind fun p11 =>
    md_fault_92 rk_26 p11.1 p11.2
def md_fault_26b   (rk_26 : MSt → Option (Int32 × MSt)) (σ : MSt) : Option (Int32 × MSt) :=
  if σ.1 1 ≤ σ.1 22 then
    some ((-1), σ)
  else
    if (σ.1 23) - (σ.1 22) = 1 then
      (sv_ix (σ.1 22) 200).bind fun j6 =>
      if σ.2 0 j6 = 59 then
        if 10 ≤ σ.1 3 then
          md_fault_78 rk_26 0 σ
        else
          md_fault_78 rk_26 1 σ
      else
        md_fault_78 rk_26 0 σ
    else
      md_fault_78 rk_26 0 σ
def md_fault_26   : Nat → MSt → Option (Int32 × MSt)
  | 0, _ => none
  | n + 1, σ => md_fault_26b (md_fault_26 n) σ
def md_fault  (σ : MSt) : Option (Int32 × MSt) :=
  (md_token (ms_s (ms_s σ 21 0) 3 0)).bind fun s1 =>
  (md_readsLine s1).bind fun p2 =>
  if p2.1 = 0 then
    some ((p2.2.1 22), p2.2)
  else
    md_fault_26 sv_FU p2.2
abbrev rm_X6_lay : Room := { frames := 0, cells := 0, slots := 0, locals := 0 }
def md_lay  (x1 : Int32) (σ : MSt) : Option MSt :=
  (sv_ix (x1 + 1) 50).bind fun j1 =>
  (sv_ix (x1 + 2) 50).bind fun j2 =>
  (sv_ix (x1 + 3) 50).bind fun j3 =>
  (sv_ix x1 50).bind fun j4 =>
  if σ.2 2 j4 = 0 then
    (sv_ix (σ.2 2 j1) 4).bind fun j6 =>
    (sv_ix (σ.2 2 j1) 4).bind fun j7 =>
    (sv_ix (x1 + 4) 50).bind fun j8 =>
    (sv_ix (σ.2 2 j1) 4).bind fun j9 =>
    some (ms_a (ms_a (ms_a (ms_s σ 4 ((σ.1 4) ||| ((1 : Int32) <<< ((σ.2 2 j1) &&& 31)))) 5 j6 (σ.2 2 j2)) 6 j7 (σ.2 2 j3)) 7 j9 (σ.2 2 j8))
  else
    if σ.2 2 j4 = 1 then
      (sv_ix (σ.2 2 j1) 4).bind fun j11 =>
      some (ms_a (ms_s σ 8 ((σ.1 8) ||| ((1 : Int32) <<< ((σ.2 2 j1) &&& 31)))) 9 j11 (σ.2 2 j2))
    else
      if σ.2 2 j4 = 2 then
        (sv_ix (σ.2 2 j1) 4).bind fun j13 =>
        (sv_ix (σ.2 2 j1) 4).bind fun j14 =>
        some (ms_a (ms_a (ms_s σ 10 ((σ.1 10) ||| ((1 : Int32) <<< ((σ.2 2 j1) &&& 31)))) 11 j13 (σ.2 2 j2)) 12 j14 (σ.2 2 j3))
      else
        if σ.2 2 j4 = 3 then
          some (ms_s σ 13 (σ.2 2 j1))
        else
          if σ.2 2 j4 = 4 then
            some (ms_s σ 14 (σ.2 2 j1))
          else
            if σ.2 2 j4 = 5 then
              some (ms_s σ 15 (σ.2 2 j1))
            else
              if σ.2 2 j4 = 6 then
                some (ms_s σ 16 (σ.2 2 j1))
              else
                some (ms_s σ 4 ((σ.1 4) &&& (((1 : Int32) <<< ((σ.2 2 j1) &&& 31)) ^^^ (-1))))
abbrev rm_X6_farm : Room := { frames := 6, cells := 0, slots := 0, locals := 128 }
def md_farm_13b   (rk_13 : Int32 → MSt → Option (Int32 × MSt)) (x1 : Int32) (σ : MSt) : Option (Int32 × MSt) :=
  if σ.1 3 ≤ x1 then
    some ((σ.1 3), (ms_s σ 1 0))
  else
    (md_lay (5 * x1) σ).bind fun s4 =>
    rk_13 (x1 + 1) s4
def md_farm_13   : Nat → Int32 → MSt → Option (Int32 × MSt)
  | 0, _, _ => none
  | n + 1, x1, σ => md_farm_13b (md_farm_13 n) x1 σ
def md_farm  (σ : MSt) : Option (Int32 × MSt) :=
  (md_fault σ).bind fun p1 =>
  if p1.1 = (-1) then
    md_farm_13 sv_FU 0 p1.2
  else
    some ((-4), p1.2)
abbrev rm_X6_has : Room := { frames := 0, cells := 0, slots := 0, locals := 0 }
def md_has  (x0 : Int32) (x1 : Int32) : Option Int32 :=
  if (x0 >>> (x1 &&& 31)) &&& 1 = 1 then
    some 1
  else
    some 0
abbrev rm_X6_isField : Room := { frames := 1, cells := 0, slots := 0, locals := 25 }
def md_isField (σ : MSt) (x1 : Int32) : Option Int32 :=
  (md_in x1.toInt64 0 3).bind fun r1 =>
  if r1 = 0 then
    some 0
  else
    (md_has (σ.1 4) x1).bind fun r3 =>
    if r3 = 0 then
      some 0
    else
      some 1
abbrev rm_X6_field : Room := { frames := 2, cells := 0, slots := 0, locals := 46 }
def md_field (σ : MSt) (x1 : Int32) (x2 : Int32) : Option Int32 :=
  (md_isField σ x1).bind fun r1 =>
  if r1 = 0 then
    some (-2)
  else
    if x2 = 0 then
      (sv_ix x1 4).bind fun j8 =>
      some (σ.2 5 j8)
    else
      if x2 = 1 then
        (sv_ix x1 4).bind fun j7 =>
        some (σ.2 6 j7)
      else
        if x2 = 2 then
          (sv_ix x1 4).bind fun j6 =>
          some (σ.2 7 j6)
        else
          some (-3)
abbrev rm_X6_isFlock : Room := { frames := 1, cells := 0, slots := 0, locals := 25 }
def md_isFlock (σ : MSt) (x1 : Int32) : Option Int32 :=
  (md_in x1.toInt64 0 3).bind fun r1 =>
  if r1 = 0 then
    some 0
  else
    (md_has (σ.1 8) x1).bind fun r3 =>
    if r3 = 0 then
      some 0
    else
      some 1
abbrev rm_X6_flock : Room := { frames := 2, cells := 0, slots := 0, locals := 46 }
def md_flock (σ : MSt) (x1 : Int32) : Option Int32 :=
  (md_isFlock σ x1).bind fun r1 =>
  if r1 = 0 then
    some (-2)
  else
    (sv_ix x1 4).bind fun j3 =>
    some (σ.2 9 j3)
abbrev rm_X6_isCoat : Room := { frames := 1, cells := 0, slots := 0, locals := 25 }
def md_isCoat (σ : MSt) (x1 : Int32) : Option Int32 :=
  (md_in x1.toInt64 0 3).bind fun r1 =>
  if r1 = 0 then
    some 0
  else
    (md_has (σ.1 10) x1).bind fun r3 =>
    if r3 = 0 then
      some 0
    else
      some 1
abbrev rm_X6_coat : Room := { frames := 2, cells := 0, slots := 0, locals := 46 }
def md_coat (σ : MSt) (x1 : Int32) (x2 : Int32) : Option Int32 :=
  (md_isCoat σ x1).bind fun r1 =>
  if r1 = 0 then
    some (-2)
  else
    if x2 = 0 then
      (sv_ix x1 4).bind fun j6 =>
      some (σ.2 11 j6)
    else
      if x2 = 1 then
        (sv_ix x1 4).bind fun j5 =>
        some (σ.2 12 j5)
      else
        some (-3)
abbrev rm_X6_place : Room := { frames := 1, cells := 0, slots := 0, locals := 25 }
def md_place_44b   (rk_44 : Int32 → Int32 → Int32 → Int32 → MSt → Option (Int32 × MSt)) (x1 : Int32) (x2 : Int32) (x3 : Int32) (x4 : Int32) (σ : MSt) : Option (Int32 × MSt) :=
  if 4 ≤ x4 then
    (sv_ix ((4 * x1) + x2) 84).bind fun j8 =>
    (sv_ix ((4 * x1) + x2) 84).bind fun j9 =>
    some (((σ.2 17 j8) - 1), (ms_a σ 17 j9 (x3 + 1)))
  else
    if x3 = (-1) then
      rk_44 x1 x2 x3 (x4 + 1) σ
    else
      if x4 = x2 then
        rk_44 x1 x2 x3 (x4 + 1) σ
      else
        (sv_ix ((4 * x1) + x4) 84).bind fun j12 =>
        if σ.2 17 j12 = x3 + 1 then
          some ((-4), σ)
        else
          rk_44 x1 x2 x3 (x4 + 1) σ
def md_place_44   : Nat → Int32 → Int32 → Int32 → Int32 → MSt → Option (Int32 × MSt)
  | 0, _, _, _, _, _ => none
  | n + 1, x1, x2, x3, x4, σ => md_place_44b (md_place_44 n) x1 x2 x3 x4 σ
def md_place  (x1 : Int32) (x2 : Int32) (x3 : Int32) (σ : MSt) : Option (Int32 × MSt) :=
  (md_in x1.toInt64 0 20).bind fun r1 =>
  if r1 = 0 then
    some ((-2), σ)
  else
    (md_in x2.toInt64 0 3).bind fun r3 =>
    if r3 = 0 then
      some ((-2), σ)
    else
      (md_in x3.toInt64 (-1) 3).bind fun r5 =>
      if r5 = 0 then
        some ((-2), σ)
      else
        md_place_44 sv_FU x1 x2 x3 0 σ
abbrev rm_X6_real : Room := { frames := 1, cells := 0, slots := 0, locals := 25 }
def md_real  (x1 : Int32) (x2 : Int32) (x3 : Int32) (σ : MSt) : Option (Int32 × MSt) :=
  (md_in x1.toInt64 0 20).bind fun r1 =>
  if r1 = 0 then
    some ((-2), σ)
  else
    (md_in x2.toInt64 0 3).bind fun r3 =>
    if r3 = 0 then
      some ((-2), σ)
    else
      (sv_ix x1 21).bind fun j5 =>
      if x3 = 0 then
        (sv_ix x1 21).bind fun j7 =>
        (sv_ix x1 21).bind fun j8 =>
        some ((((σ.2 18 j5) >>> (x2 &&& 31)) &&& 1), (ms_a σ 18 j8 ((σ.2 18 j7) &&& (((1 : Int32) <<< (x2 &&& 31)) ^^^ (-1)))))
      else
        (sv_ix x1 21).bind fun j9 =>
        (sv_ix x1 21).bind fun j10 =>
        some ((((σ.2 18 j5) >>> (x2 &&& 31)) &&& 1), (ms_a σ 18 j10 ((σ.2 18 j9) ||| ((1 : Int32) <<< (x2 &&& 31)))))
abbrev rm_X6_isDay : Room := { frames := 1, cells := 0, slots := 0, locals := 25 }
def md_isDay (σ : MSt) (x1 : Int32) : Option Int32 :=
  (md_in x1.toInt64 0 (((σ.1 16) - 1).toInt64)).bind fun r1 =>
  (sv_zb r1).bind fun b2 => some b2
abbrev rm_X6_asPlanned : Room := { frames := 0, cells := 0, slots := 0, locals := 0 }
def md_asPlanned  (σ : MSt) : Option MSt :=
  some (ms_s (ms_s (ms_s (ms_s (ms_s σ 24 15) 25 (-1)) 26 (-1)) 29 (-1)) 31 268435456)
abbrev rm_X6_begin : Room := { frames := 0, cells := 0, slots := 0, locals := 0 }
def md_begin_27b   (rk_27 : Int32 → MSt → Option MSt) (x1 : Int32) (σ : MSt) : Option MSt :=
  if 16 ≤ x1 then
    some σ
  else
    (sv_ix (x1 - x1 / 4 * 4) 4).bind fun j5 =>
    (sv_ix x1 16).bind fun j6 =>
    rk_27 (x1 + 1) (ms_a σ 34 j6 (σ.2 11 j5))
def md_begin_27   : Nat → Int32 → MSt → Option MSt
  | 0, _, _ => none
  | n + 1, x1, σ => md_begin_27b (md_begin_27 n) x1 σ
def md_begin_2b   (rk_2 : Int32 → MSt → Option MSt) (x1 : Int32) (σ : MSt) : Option MSt :=
  if 4 ≤ x1 then
    md_begin_27 sv_FU 0 σ
  else
    (sv_ix x1 4).bind fun j2 =>
    (sv_ix x1 4).bind fun j3 =>
    rk_2 (x1 + 1) (ms_a σ 33 j3 (σ.2 5 j2))
def md_begin_2   : Nat → Int32 → MSt → Option MSt
  | 0, _, _ => none
  | n + 1, x1, σ => md_begin_2b (md_begin_2 n) x1 σ
def md_begin  (σ : MSt) : Option MSt :=
  md_begin_2 sv_FU 0 σ
abbrev rm_X6_coatAt : Room := { frames := 1, cells := 0, slots := 0, locals := 21 }
def md_coatAt_78 (σ : MSt)  (x2 : Int32) (x3 : Int32) : Option Int32 :=
  if x3 = (-1) then
    some (-1)
  else
    if x3 = σ.1 25 then
      some (-1)
    else
      (md_has (σ.1 10) x3).bind fun r9 =>
      if r9 = 0 then
        some (-1)
      else
        (md_has (σ.1 4) x2).bind fun r11 =>
        if r11 = 0 then
          some (-1)
        else
          (sv_ix x2 4).bind fun j13 =>
          (md_has (σ.1 24) (σ.2 7 j13)).bind fun r14 =>
          if r14 = 0 then
            some (-1)
          else
            some x3
def md_coatAt_40 (σ : MSt)  (x2 : Int32) (t0 : Int32) : Option Int32 :=
  if σ.1 26 = (-1) then
    md_coatAt_78 σ x2 t0
  else
    if x2 = σ.1 27 then
      md_coatAt_78 σ x2 (σ.1 26)
    else
      if t0 = σ.1 26 then
        md_coatAt_78 σ x2 (-1)
      else
        md_coatAt_78 σ x2 t0
def md_coatAt (σ : MSt) (x1 : Int32) (x2 : Int32) : Option Int32 :=
  if x1 < σ.1 31 then
    (sv_ix ((4 * x1) + x2) 84).bind fun j2 =>
    md_coatAt_40 σ x2 ((σ.2 17 j2) - 1)
  else
    (sv_ix ((4 * (x1 - (σ.1 31))) + x2) 8).bind fun j3 =>
    md_coatAt_40 σ x2 ((σ.2 32 j3) - 1)
abbrev rm_X6_fly : Room := { frames := 2, cells := 0, slots := 0, locals := 44 }
def md_fly_184   (x3 : Int32) (t0 : Int32) (σ : MSt) : Option MSt :=
  (sv_ix x3 4).bind fun j22 =>
  (sv_ix x3 4).bind fun j23 =>
  (sv_ix x3 4).bind fun j24 =>
  (sv_ix x3 4).bind fun j25 =>
  some (ms_a (ms_a σ 33 j23 ((σ.2 33 j22) - t0)) 36 j25 ((σ.2 36 j24) + t0))
def md_fly_119  (rk_8 : Int32 → Int32 → Int32 → Int32 → Int32 → MSt → Option MSt) (x1 : Int32) (x2 : Int32) (x4 : Int32) (x5 : Int32) (x8 : Int32) (t0 : Int32) (σ : MSt) : Option MSt :=
  if x8 ≤ x4 then
    rk_8 x1 x2 t0 x4 (x5 + 1) σ
  else
    rk_8 x1 x2 t0 x8 (x5 + 1) σ
def md_fly_103  (rk_8 : Int32 → Int32 → Int32 → Int32 → Int32 → MSt → Option MSt) (x1 : Int32) (x2 : Int32) (x3 : Int32) (x4 : Int32) (x5 : Int32) (t0 : Int32) (t1 : Int32) (σ : MSt) : Option MSt :=
  if t0 - t1 ≤ x4 then
    md_fly_119 rk_8 x1 x2 x4 x5 (t0 - t1) x3 σ
  else
    md_fly_119 rk_8 x1 x2 x4 x5 (t0 - t1) x5 σ
def md_fly_67  (rk_8 : Int32 → Int32 → Int32 → Int32 → Int32 → MSt → Option MSt) (x1 : Int32) (x2 : Int32) (x3 : Int32) (x4 : Int32) (x5 : Int32) (x6 : Int32) (t0 : Int32) (σ : MSt) : Option MSt :=
  (sv_ix x5 4).bind fun j17 =>
  if x6 = (-1) then
    md_fly_103 rk_8 x1 x2 x3 x4 x5 ((10 * t0) - (σ.2 6 j17)) 0 σ
  else
    (sv_ix ((4 * x2) + x6) 16).bind fun j19 =>
    md_fly_103 rk_8 x1 x2 x3 x4 x5 ((10 * t0) - (σ.2 6 j17)) (σ.2 34 j19) σ
def md_fly_8b   (rk_8 : Int32 → Int32 → Int32 → Int32 → Int32 → MSt → Option MSt) (x1 : Int32) (x2 : Int32) (x3 : Int32) (x4 : Int32) (x5 : Int32) (σ : MSt) : Option MSt :=
  if 4 ≤ x5 then
    (sv_ix x2 4).bind fun j2 =>
    if x3 = (-1) then
      some (ms_a σ 35 j2 x3)
    else
      (sv_ix x3 4).bind fun j4 =>
      (sv_ix x2 4).bind fun j5 =>
      if σ.2 9 j5 ≤ σ.2 33 j4 then
        (sv_ix x2 4).bind fun j7 =>
        md_fly_184 x3 (σ.2 9 j7) (ms_a σ 35 j2 x3)
      else
        (sv_ix x3 4).bind fun j8 =>
        md_fly_184 x3 (σ.2 33 j8) (ms_a σ 35 j2 x3)
  else
    (md_has (σ.1 4) x5).bind fun r9 =>
    if r9 = 0 then
      rk_8 x1 x2 x3 x4 (x5 + 1) σ
    else
      (md_coatAt σ x1 x5).bind fun r11 =>
      (sv_ix x5 4).bind fun j12 =>
      (sv_ix x2 4).bind fun j13 =>
      if σ.2 9 j13 ≤ σ.2 33 j12 then
        (sv_ix x2 4).bind fun j15 =>
        md_fly_67 rk_8 x1 x2 x3 x4 x5 r11 (σ.2 9 j15) σ
      else
        (sv_ix x5 4).bind fun j16 =>
        md_fly_67 rk_8 x1 x2 x3 x4 x5 r11 (σ.2 33 j16) σ
def md_fly_8   : Nat → Int32 → Int32 → Int32 → Int32 → Int32 → MSt → Option MSt
  | 0, _, _, _, _, _, _ => none
  | n + 1, x1, x2, x3, x4, x5, σ => md_fly_8b (md_fly_8 n) x1 x2 x3 x4 x5 σ
def md_fly  (x1 : Int32) (x2 : Int32) (σ : MSt) : Option MSt :=
  md_fly_8 sv_FU x1 x2 (-1) 0 0 σ
abbrev rm_X6_isReal : Room := { frames := 1, cells := 0, slots := 0, locals := 21 }
def md_isReal (σ : MSt) (x1 : Int32) (x2 : Int32) : Option Int32 :=
  if x2 = σ.1 26 then
    if σ.1 28 ≤ 0 then
      some 0
    else
      if σ.1 28 = 0 then none else
      if x1 - x1 / (σ.1 28) * (σ.1 28) = 0 then
        some 1
      else
        some 0
  else
    (sv_ix x1 21).bind fun j2 =>
    (md_has (σ.2 18 j2) x2).bind fun r3 =>
    (sv_zb r3).bind fun b4 => some b4
abbrev rm_X6_roost : Room := { frames := 1, cells := 0, slots := 0, locals := 21 }
def md_roost_131b  (rk_61 : Int32 → Int32 → Int32 → MSt → Option MSt) (rk_131 : Int32 → Int32 → Int32 → Int32 → Int32 → MSt → Option MSt) (x1 : Int32) (x2 : Int32) (x3 : Int32) (x4 : Int32) (x5 : Int32) (σ : MSt) : Option MSt :=
  if 4 ≤ x5 then
    rk_61 x1 x2 (x3 + 1) σ
  else
    (sv_ix ((4 * x5) + x3) 16).bind fun j14 =>
    (md_has (σ.1 8) x5).bind fun r15 =>
    if r15 = 0 then
      (sv_ix ((4 * x5) + x3) 16).bind fun j17 =>
      rk_131 x1 x2 x3 x4 (x5 + 1) (ms_a σ 34 j17 ((σ.2 34 j14) + 0))
    else
      if x2 = 0 then none else
      (sv_ix ((4 * x5) + x3) 16).bind fun j18 =>
      (sv_ix ((4 * x5) + x3) 16).bind fun j19 =>
      rk_131 x1 x2 x3 x4 (x5 + 1) (ms_a σ 34 j19 ((σ.2 34 j14) + ((((x4 / x2) - (σ.2 34 j18)) * x1) / 100)))
def md_roost_131  (rk_61 : Int32 → Int32 → Int32 → MSt → Option MSt) : Nat → Int32 → Int32 → Int32 → Int32 → Int32 → MSt → Option MSt
  | 0, _, _, _, _, _, _ => none
  | n + 1, x1, x2, x3, x4, x5, σ => md_roost_131b rk_61 (md_roost_131 rk_61 n) x1 x2 x3 x4 x5 σ
def md_roost_76b  (rk_61 : Int32 → Int32 → Int32 → MSt → Option MSt) (rk_76 : Int32 → Int32 → Int32 → Int32 → Int32 → MSt → Option MSt) (x1 : Int32) (x2 : Int32) (x3 : Int32) (x4 : Int32) (x5 : Int32) (σ : MSt) : Option MSt :=
  if 4 ≤ x5 then
    md_roost_131 rk_61 sv_FU x1 x2 x3 x4 0 σ
  else
    (md_has (σ.1 8) x5).bind fun r9 =>
    if r9 = 0 then
      rk_76 x1 x2 x3 (x4 + 0) (x5 + 1) σ
    else
      (sv_ix ((4 * x5) + x3) 16).bind fun j11 =>
      (sv_ix x5 4).bind fun j12 =>
      rk_76 x1 x2 x3 (x4 + ((σ.2 34 j11) * (σ.2 9 j12))) (x5 + 1) σ
def md_roost_76  (rk_61 : Int32 → Int32 → Int32 → MSt → Option MSt) : Nat → Int32 → Int32 → Int32 → Int32 → Int32 → MSt → Option MSt
  | 0, _, _, _, _, _, _ => none
  | n + 1, x1, x2, x3, x4, x5, σ => md_roost_76b rk_61 (md_roost_76 rk_61 n) x1 x2 x3 x4 x5 σ
def md_roost_61b   (rk_61 : Int32 → Int32 → Int32 → MSt → Option MSt) (x1 : Int32) (x2 : Int32) (x3 : Int32) (σ : MSt) : Option MSt :=
  if 4 ≤ x3 then
    some σ
  else
    if x2 ≤ 0 then
      some σ
    else
      md_roost_76 rk_61 sv_FU x1 x2 x3 0 0 σ
def md_roost_61   : Nat → Int32 → Int32 → Int32 → MSt → Option MSt
  | 0, _, _, _, _ => none
  | n + 1, x1, x2, x3, σ => md_roost_61b (md_roost_61 n) x1 x2 x3 σ
def md_roost_24b   (rk_24 : Int32 → Int32 → Int32 → MSt → Option MSt) (x1 : Int32) (x2 : Int32) (x3 : Int32) (σ : MSt) : Option MSt :=
  if 4 ≤ x3 then
    md_roost_61 sv_FU x1 x2 0 σ
  else
    (md_has (σ.1 8) x3).bind fun r3 =>
    if r3 = 0 then
      rk_24 x1 (x2 + 0) (x3 + 1) σ
    else
      (sv_ix x3 4).bind fun j5 =>
      rk_24 x1 (x2 + (σ.2 9 j5)) (x3 + 1) σ
def md_roost_24   : Nat → Int32 → Int32 → Int32 → MSt → Option MSt
  | 0, _, _, _, _ => none
  | n + 1, x1, x2, x3, σ => md_roost_24b (md_roost_24 n) x1 x2 x3 σ
def md_roost  (σ : MSt) : Option MSt :=
  if σ.1 29 = (-1) then
    md_roost_24 sv_FU (σ.1 13) 0 0 σ
  else
    md_roost_24 sv_FU (σ.1 30) 0 0 σ
abbrev rm_X6_goDay : Room := { frames := 3, cells := 0, slots := 0, locals := 72 }
def md_goDay_120  (rk_52 : Int32 → Int32 → MSt → Option MSt) (x1 : Int32) (x2 : Int32) (x3 : Int32) (t0 : Int32) (σ : MSt) : Option MSt :=
  (md_isReal σ x1 x3).bind fun r18 =>
  if r18 = 0 then
    (sv_ix ((4 * x2) + x3) 16).bind fun j20 =>
    (sv_ix ((4 * x2) + x3) 16).bind fun j21 =>
    rk_52 x1 (x2 + 1) (ms_a σ 34 j21 (((σ.2 34 j20) * (100 - t0)) / 100))
  else
    (sv_ix ((4 * x2) + x3) 16).bind fun j22 =>
    rk_52 x1 (x2 + 1) (ms_a σ 34 j22 999)
def md_goDay_93  (rk_52 : Int32 → Int32 → MSt → Option MSt) (x1 : Int32) (x2 : Int32) (t0 : Int32) (σ : MSt) : Option MSt :=
  if t0 = (-1) then
    rk_52 x1 (x2 + 1) σ
  else
    if σ.1 29 = (-1) then
      (sv_ix t0 4).bind fun j17 =>
      md_goDay_120 rk_52 x1 x2 t0 (σ.2 12 j17) σ
    else
      md_goDay_120 rk_52 x1 x2 t0 (σ.1 29) σ
def md_goDay_52b   (rk_52 : Int32 → Int32 → MSt → Option MSt) (x1 : Int32) (x2 : Int32) (σ : MSt) : Option MSt :=
  if 4 ≤ x2 then
    (md_roost σ).bind fun s8 =>
    some s8
  else
    (md_has (σ.1 8) x2).bind fun r9 =>
    if r9 = 0 then
      md_goDay_93 rk_52 x1 x2 (-1) σ
    else
      (sv_ix x2 4).bind fun j11 =>
      if σ.2 35 j11 = (-1) then
        md_goDay_93 rk_52 x1 x2 (-1) σ
      else
        (sv_ix x2 4).bind fun j13 =>
        (md_coatAt σ x1 (σ.2 35 j13)).bind fun r14 =>
        md_goDay_93 rk_52 x1 x2 r14 σ
def md_goDay_52   : Nat → Int32 → Int32 → MSt → Option MSt
  | 0, _, _, _ => none
  | n + 1, x1, x2, σ => md_goDay_52b (md_goDay_52 n) x1 x2 σ
def md_goDay_22b   (rk_22 : Int32 → Int32 → MSt → Option MSt) (x1 : Int32) (x2 : Int32) (σ : MSt) : Option MSt :=
  if 4 ≤ x2 then
    md_goDay_52 sv_FU x1 0 σ
  else
    (md_has (σ.1 8) x2).bind fun r4 =>
    if r4 = 0 then
      rk_22 x1 (x2 + 1) σ
    else
      (md_fly x1 x2 σ).bind fun s6 =>
      rk_22 x1 (x2 + 1) s6
def md_goDay_22   : Nat → Int32 → Int32 → MSt → Option MSt
  | 0, _, _, _ => none
  | n + 1, x1, x2, σ => md_goDay_22b (md_goDay_22 n) x1 x2 σ
def md_goDay_2b   (rk_2 : Int32 → Int32 → MSt → Option MSt) (x1 : Int32) (x2 : Int32) (σ : MSt) : Option MSt :=
  if 4 ≤ x2 then
    md_goDay_22 sv_FU x1 0 σ
  else
    (sv_ix x2 4).bind fun j2 =>
    rk_2 x1 (x2 + 1) (ms_a σ 36 j2 0)
def md_goDay_2   : Nat → Int32 → Int32 → MSt → Option MSt
  | 0, _, _, _ => none
  | n + 1, x1, x2, σ => md_goDay_2b (md_goDay_2 n) x1 x2 σ
def md_goDay  (x1 : Int32) (σ : MSt) : Option MSt :=
  md_goDay_2 sv_FU x1 0 σ
abbrev rm_X6_goTo : Room := { frames := 4, cells := 0, slots := 0, locals := 96 }
def md_goTo_6b   (rk_6 : Int32 → Int32 → MSt → Option MSt) (x1 : Int32) (x2 : Int32) (σ : MSt) : Option MSt :=
  if x1 < x2 then
    some σ
  else
    (md_goDay x2 σ).bind fun s3 =>
    rk_6 x1 (x2 + 1) s3
def md_goTo_6   : Nat → Int32 → Int32 → MSt → Option MSt
  | 0, _, _, _ => none
  | n + 1, x1, x2, σ => md_goTo_6b (md_goTo_6 n) x1 x2 σ
def md_goTo  (x1 : Int32) (σ : MSt) : Option MSt :=
  (md_begin σ).bind fun s1 =>
  md_goTo_6 sv_FU x1 0 s1
abbrev rm_X6_went : Room := { frames := 5, cells := 0, slots := 0, locals := 118 }
def md_went  (x1 : Int32) (x2 : Int32) (σ : MSt) : Option (Int32 × MSt) :=
  (md_isDay σ x1).bind fun r1 =>
  if r1 = 0 then
    some ((-2), σ)
  else
    (md_isFlock σ x2).bind fun r3 =>
    if r3 = 0 then
      some ((-2), σ)
    else
      (md_asPlanned σ).bind fun s5 =>
      (md_goTo x1 s5).bind fun s6 =>
      (sv_ix x2 4).bind fun j7 =>
      some ((s6.2 35 j7), s6)
abbrev rm_X6_eatenAll : Room := { frames := 0, cells := 0, slots := 0, locals := 0 }
def md_eatenAll (σ : MSt)  : Option Int32 :=
  some ((((σ.2 36 0) + (σ.2 36 1)) + (σ.2 36 2)) + (σ.2 36 3))
abbrev rm_X6_eaten : Room := { frames := 5, cells := 0, slots := 0, locals := 118 }
def md_eaten_24   (x1 : Int32) (x2 : Int32) (σ : MSt) : Option (Int32 × MSt) :=
  (md_asPlanned σ).bind fun s6 =>
  (md_goTo x1 s6).bind fun s7 =>
  if x2 = (-1) then
    (md_eatenAll s7).bind fun r10 =>
    some (r10, s7)
  else
    (sv_ix x2 4).bind fun j9 =>
    some ((s7.2 36 j9), s7)
def md_eaten  (x1 : Int32) (x2 : Int32) (σ : MSt) : Option (Int32 × MSt) :=
  (md_isDay σ x1).bind fun r1 =>
  if r1 = 0 then
    some ((-2), σ)
  else
    if x2 = (-1) then
      md_eaten_24 x1 x2 σ
    else
      (md_isField σ x2).bind fun r4 =>
      if r4 = 0 then
        some ((-2), σ)
      else
        md_eaten_24 x1 x2 σ
abbrev rm_X6_left : Room := { frames := 5, cells := 0, slots := 0, locals := 118 }
def md_left  (x1 : Int32) (x2 : Int32) (σ : MSt) : Option (Int32 × MSt) :=
  (md_isDay σ x1).bind fun r1 =>
  if r1 = 0 then
    some ((-2), σ)
  else
    (md_isField σ x2).bind fun r3 =>
    if r3 = 0 then
      some ((-2), σ)
    else
      (md_asPlanned σ).bind fun s5 =>
      (md_goTo x1 s5).bind fun s6 =>
      (sv_ix x2 4).bind fun j7 =>
      some ((s6.2 33 j7), s6)
abbrev rm_X6_fear : Room := { frames := 5, cells := 0, slots := 0, locals := 118 }
def md_fear_13   (x1 : Int32) (x2 : Int32) (x3 : Int32) (σ : MSt) : Option (Int32 × MSt) :=
  (md_isFlock σ x2).bind fun r4 =>
  if r4 = 0 then
    some ((-2), σ)
  else
    (md_isCoat σ x3).bind fun r6 =>
    if r6 = 0 then
      some ((-2), σ)
    else
      (md_asPlanned σ).bind fun s8 =>
      (md_goTo x1 s8).bind fun s9 =>
      (sv_ix ((4 * x2) + x3) 16).bind fun j10 =>
      some ((s9.2 34 j10), s9)
def md_fear  (x1 : Int32) (x2 : Int32) (x3 : Int32) (σ : MSt) : Option (Int32 × MSt) :=
  if x1 = (-1) then
    md_fear_13 x1 x2 x3 σ
  else
    (md_isDay σ x1).bind fun r2 =>
    if r2 = 0 then
      some ((-2), σ)
    else
      md_fear_13 x1 x2 x3 σ
abbrev rm_X6_lossOf : Room := { frames := 4, cells := 0, slots := 0, locals := 96 }
def md_lossOf_24b  (rk_8 : Int32 → Int32 → Int32 → MSt → Option (Int32 × MSt)) (rk_24 : Int32 → Int32 → Int32 → Int32 → MSt → Option (Int32 × MSt)) (x1 : Int32) (x2 : Int32) (x3 : Int32) (x4 : Int32) (σ : MSt) : Option (Int32 × MSt) :=
  if 4 ≤ x4 then
    rk_8 x1 x2 (x3 + 1) σ
  else
    (sv_ix x4 4).bind fun j5 =>
    (md_has x1 (σ.2 7 j5)).bind fun r6 =>
    if r6 = 0 then
      rk_24 x1 (x2 + 0) x3 (x4 + 1) σ
    else
      (sv_ix x4 4).bind fun j8 =>
      rk_24 x1 (x2 + (σ.2 36 j8)) x3 (x4 + 1) σ
def md_lossOf_24  (rk_8 : Int32 → Int32 → Int32 → MSt → Option (Int32 × MSt)) : Nat → Int32 → Int32 → Int32 → Int32 → MSt → Option (Int32 × MSt)
  | 0, _, _, _, _, _ => none
  | n + 1, x1, x2, x3, x4, σ => md_lossOf_24b rk_8 (md_lossOf_24 rk_8 n) x1 x2 x3 x4 σ
def md_lossOf_8b   (rk_8 : Int32 → Int32 → Int32 → MSt → Option (Int32 × MSt)) (x1 : Int32) (x2 : Int32) (x3 : Int32) (σ : MSt) : Option (Int32 × MSt) :=
  if σ.1 16 ≤ x3 then
    some (x2, σ)
  else
    (md_goDay x3 σ).bind fun s3 =>
    md_lossOf_24 rk_8 sv_FU x1 x2 x3 0 s3
def md_lossOf_8   : Nat → Int32 → Int32 → Int32 → MSt → Option (Int32 × MSt)
  | 0, _, _, _, _ => none
  | n + 1, x1, x2, x3, σ => md_lossOf_8b (md_lossOf_8 n) x1 x2 x3 σ
def md_lossOf  (x1 : Int32) (σ : MSt) : Option (Int32 × MSt) :=
  (md_begin σ).bind fun s1 =>
  md_lossOf_8 sv_FU x1 0 0 s1
abbrev rm_X6_wages : Room := { frames := 2, cells := 0, slots := 0, locals := 44 }
def md_wages_4b (σ : MSt)  (rk_4 : Int32 → Int32 → Option Int32) (x1 : Int32) (x2 : Int32) : Option Int32 :=
  if 4 * (σ.1 16) ≤ x2 then
    some (x1 * (σ.1 14))
  else
    (md_coatAt σ (x2 / 4) (x2 - x2 / 4 * 4)).bind fun r2 =>
    if r2 = (-1) then
      rk_4 (x1 + 0) (x2 + 1)
    else
      (md_isReal σ (x2 / 4) r2).bind fun r4 =>
      if r4 = 0 then
        rk_4 (x1 + 0) (x2 + 1)
      else
        rk_4 (x1 + 1) (x2 + 1)
def md_wages_4 (σ : MSt)  : Nat → Int32 → Int32 → Option Int32
  | 0, _, _ => none
  | n + 1, x1, x2 => md_wages_4b σ (md_wages_4 σ n) x1 x2
def md_wages (σ : MSt)  : Option Int32 :=
  md_wages_4 σ sv_FU 0 0
abbrev rm_X6_cost : Room := { frames := 5, cells := 0, slots := 0, locals := 120 }
def md_cost  (x1 : Int32) (σ : MSt) : Option (Int32 × MSt) :=
  (md_asPlanned σ).bind fun s1 =>
  if x1 = 0 then
    (md_lossOf 15 s1).bind fun p3 =>
    (md_wages p3.2).bind fun r4 =>
    some (((p3.1 * (p3.2.1 15)) + r4), p3.2)
  else
    if x1 = 1 then
      (md_lossOf 15 s1).bind fun p6 =>
      some (p6.1, p6.2)
    else
      if x1 = 2 then
        (md_wages s1).bind fun r8 =>
        some (r8, s1)
      else
        some ((-3), s1)
abbrev rm_X6_keep : Room := { frames := 0, cells := 0, slots := 0, locals := 0 }
def md_keep_31b   (rk_31 : Int32 → Int32 → MSt → Option MSt) (x1 : Int32) (x2 : Int32) (σ : MSt) : Option MSt :=
  if 16 ≤ x2 then
    some σ
  else
    (sv_ix x2 16).bind fun j5 =>
    (sv_ix ((16 * x1) + x2) 32).bind fun j6 =>
    rk_31 x1 (x2 + 1) (ms_a σ 38 j6 (σ.2 34 j5))
def md_keep_31   : Nat → Int32 → Int32 → MSt → Option MSt
  | 0, _, _, _ => none
  | n + 1, x1, x2, σ => md_keep_31b (md_keep_31 n) x1 x2 σ
def md_keep_2b   (rk_2 : Int32 → Int32 → MSt → Option MSt) (x1 : Int32) (x2 : Int32) (σ : MSt) : Option MSt :=
  if 4 ≤ x2 then
    md_keep_31 sv_FU x1 0 σ
  else
    (sv_ix x2 4).bind fun j2 =>
    (sv_ix ((4 * x1) + x2) 8).bind fun j3 =>
    rk_2 x1 (x2 + 1) (ms_a σ 37 j3 (σ.2 33 j2))
def md_keep_2   : Nat → Int32 → Int32 → MSt → Option MSt
  | 0, _, _, _ => none
  | n + 1, x1, x2, σ => md_keep_2b (md_keep_2 n) x1 x2 σ
def md_keep  (x1 : Int32) (σ : MSt) : Option MSt :=
  md_keep_2 sv_FU x1 0 σ
abbrev rm_X6_layTried : Room := { frames := 1, cells := 0, slots := 0, locals := 21 }
def md_layTried_89  (rk_11 : Int32 → Int32 → Int32 → Int32 → Int32 → MSt → Option (Int32 × MSt)) (x1 : Int32) (x3 : Int32) (x4 : Int32) (x6 : Int32) (x7 : Int32) (t0 : Int32) (σ : MSt) : Option (Int32 × MSt) :=
  rk_11 x1 x3 (x4 ||| ((1 : Int32) <<< (x7 &&& 31))) t0 (x6 + (-1)) σ
def md_layTried_11b   (rk_11 : Int32 → Int32 → Int32 → Int32 → Int32 → MSt → Option (Int32 × MSt)) (x1 : Int32) (x3 : Int32) (x4 : Int32) (x5 : Int32) (x6 : Int32) (σ : MSt) : Option (Int32 × MSt) :=
  if x6 < 0 then
    (sv_zb x5).bind fun b2 => some (b2, σ)
  else
    (sv_ix ((4 * x1) + x6) 8).bind fun j3 =>
    if x5 = 0 then
      md_layTried_89 rk_11 x1 (x3 / 5) x4 x6 (x3 - x3 / 5 * 5) 0 (ms_a σ 32 j3 (x3 - x3 / 5 * 5))
    else
      if x3 - x3 / 5 * 5 = 0 then
        md_layTried_89 rk_11 x1 (x3 / 5) x4 x6 (x3 - x3 / 5 * 5) 1 (ms_a σ 32 j3 (x3 - x3 / 5 * 5))
      else
        (md_has (σ.1 4) x6).bind fun r6 =>
        if r6 = 0 then
          md_layTried_89 rk_11 x1 (x3 / 5) x4 x6 (x3 - x3 / 5 * 5) 0 (ms_a σ 32 j3 (x3 - x3 / 5 * 5))
        else
          (md_has (σ.1 10) ((x3 - x3 / 5 * 5) - 1)).bind fun r8 =>
          if r8 = 0 then
            md_layTried_89 rk_11 x1 (x3 / 5) x4 x6 (x3 - x3 / 5 * 5) 0 (ms_a σ 32 j3 (x3 - x3 / 5 * 5))
          else
            (md_has x4 (x3 - x3 / 5 * 5)).bind fun r10 =>
            if r10 = 0 then
              md_layTried_89 rk_11 x1 (x3 / 5) x4 x6 (x3 - x3 / 5 * 5) 1 (ms_a σ 32 j3 (x3 - x3 / 5 * 5))
            else
              md_layTried_89 rk_11 x1 (x3 / 5) x4 x6 (x3 - x3 / 5 * 5) 0 (ms_a σ 32 j3 (x3 - x3 / 5 * 5))
def md_layTried_11   : Nat → Int32 → Int32 → Int32 → Int32 → Int32 → MSt → Option (Int32 × MSt)
  | 0, _, _, _, _, _, _ => none
  | n + 1, x1, x3, x4, x5, x6, σ => md_layTried_11b (md_layTried_11 n) x1 x3 x4 x5 x6 σ
def md_layTried  (x1 : Int32) (x2 : Int32) (σ : MSt) : Option (Int32 × MSt) :=
  md_layTried_11 sv_FU x1 x2 0 1 3 σ
abbrev rm_X6_back : Room := { frames := 0, cells := 0, slots := 0, locals := 0 }
def md_back_31b   (rk_31 : Int32 → Int32 → MSt → Option MSt) (x1 : Int32) (x2 : Int32) (σ : MSt) : Option MSt :=
  if 16 ≤ x2 then
    some σ
  else
    (sv_ix ((16 * x1) + x2) 32).bind fun j5 =>
    (sv_ix x2 16).bind fun j6 =>
    rk_31 x1 (x2 + 1) (ms_a σ 34 j6 (σ.2 38 j5))
def md_back_31   : Nat → Int32 → Int32 → MSt → Option MSt
  | 0, _, _, _ => none
  | n + 1, x1, x2, σ => md_back_31b (md_back_31 n) x1 x2 σ
def md_back_2b   (rk_2 : Int32 → Int32 → MSt → Option MSt) (x1 : Int32) (x2 : Int32) (σ : MSt) : Option MSt :=
  if 4 ≤ x2 then
    md_back_31 sv_FU x1 0 σ
  else
    (sv_ix ((4 * x1) + x2) 8).bind fun j2 =>
    (sv_ix x2 4).bind fun j3 =>
    rk_2 x1 (x2 + 1) (ms_a σ 33 j3 (σ.2 37 j2))
def md_back_2   : Nat → Int32 → Int32 → MSt → Option MSt
  | 0, _, _, _ => none
  | n + 1, x1, x2, σ => md_back_2b (md_back_2 n) x1 x2 σ
def md_back  (x1 : Int32) (σ : MSt) : Option MSt :=
  md_back_2 sv_FU x1 0 σ
abbrev rm_X6_leastSecond : Room := { frames := 4, cells := 0, slots := 0, locals := 96 }
def md_leastSecond_10b   (rk_10 : Int32 → Int32 → Int32 → MSt → Option (Int32 × MSt)) (x1 : Int32) (x2 : Int32) (x3 : Int32) (σ : MSt) : Option (Int32 × MSt) :=
  if 625 ≤ x3 then
    some (x2, σ)
  else
    (md_layTried 1 x3 σ).bind fun p3 =>
    if p3.1 = 0 then
      rk_10 x1 x2 (x3 + 1) p3.2
    else
      (md_back 1 p3.2).bind fun s5 =>
      (md_goDay x1 s5).bind fun s6 =>
      (md_eatenAll s6).bind fun r7 =>
      if x2 ≤ r7 then
        rk_10 x1 x2 (x3 + 1) s6
      else
        (md_eatenAll s6).bind fun r9 =>
        rk_10 x1 r9 (x3 + 1) s6
def md_leastSecond_10   : Nat → Int32 → Int32 → Int32 → MSt → Option (Int32 × MSt)
  | 0, _, _, _, _ => none
  | n + 1, x1, x2, x3, σ => md_leastSecond_10b (md_leastSecond_10 n) x1 x2 x3 σ
def md_leastSecond  (x1 : Int32) (σ : MSt) : Option (Int32 × MSt) :=
  (md_keep 1 σ).bind fun s1 =>
  md_leastSecond_10 sv_FU x1 268435456 0 s1
abbrev rm_X6_best : Room := { frames := 5, cells := 0, slots := 0, locals := 119 }
def md_best_151  (rk_81 : Int32 → Int32 → Int32 → Int32 → Int32 → Int32 → MSt → Option (Int32 × MSt)) (x1 : Int32) (x2 : Int32) (x3 : Int32) (x4 : Int32) (x6 : Int32) (x8 : Int32) (t0 : Int32) (σ : MSt) : Option (Int32 × MSt) :=
  if x4 ≤ x8 then
    rk_81 x1 x2 x3 x4 t0 (x6 + 1) σ
  else
    rk_81 x1 x2 x3 x8 t0 (x6 + 1) σ
def md_best_135  (rk_81 : Int32 → Int32 → Int32 → Int32 → Int32 → Int32 → MSt → Option (Int32 × MSt)) (x1 : Int32) (x2 : Int32) (x3 : Int32) (x4 : Int32) (x5 : Int32) (x6 : Int32) (t0 : Int32) (σ : MSt) : Option (Int32 × MSt) :=
  if x4 ≤ t0 then
    md_best_151 rk_81 x1 x2 x3 x4 x6 t0 x5 σ
  else
    md_best_151 rk_81 x1 x2 x3 x4 x6 t0 x6 σ
def md_best_81b   (rk_81 : Int32 → Int32 → Int32 → Int32 → Int32 → Int32 → MSt → Option (Int32 × MSt)) (x1 : Int32) (x2 : Int32) (x3 : Int32) (x4 : Int32) (x5 : Int32) (x6 : Int32) (σ : MSt) : Option (Int32 × MSt) :=
  if 625 ≤ x6 then
    (md_layTried 0 x5 σ).bind fun p12 =>
    if x3 = (-1) then
      some (x4, p12.2)
    else
      (sv_ix x3 8).bind fun j14 =>
      some (((p12.2.2 32 j14) - 1), p12.2)
  else
    (md_layTried 0 x6 σ).bind fun p15 =>
    if p15.1 = 0 then
      rk_81 x1 x2 x3 x4 x5 (x6 + 1) p15.2
    else
      (md_back 0 p15.2).bind fun s17 =>
      (md_goDay x1 s17).bind fun s18 =>
      (md_eatenAll s18).bind fun r19 =>
      if x2 = 1 then
        md_best_135 rk_81 x1 x2 x3 x4 x5 x6 r19 s18
      else
        (md_leastSecond (x1 + 1) s18).bind fun p21 =>
        md_best_135 rk_81 x1 x2 x3 x4 x5 x6 (r19 + p21.1) p21.2
def md_best_81   : Nat → Int32 → Int32 → Int32 → Int32 → Int32 → Int32 → MSt → Option (Int32 × MSt)
  | 0, _, _, _, _, _, _, _ => none
  | n + 1, x1, x2, x3, x4, x5, x6, σ => md_best_81b (md_best_81 n) x1 x2 x3 x4 x5 x6 σ
def md_best  (x1 : Int32) (x2 : Int32) (x3 : Int32) (σ : MSt) : Option (Int32 × MSt) :=
  (md_isDay σ x1).bind fun r1 =>
  if r1 = 0 then
    some ((-2), σ)
  else
    (md_in x2.toInt64 1 2).bind fun r3 =>
    if r3 = 0 then
      some ((-3), σ)
    else
      if σ.1 16 < x1 + x2 then
        some ((-3), σ)
      else
        (md_in x3.toInt64 (-1) 3).bind fun r6 =>
        if r6 = 0 then
          some ((-3), σ)
        else
          (md_asPlanned σ).bind fun s8 =>
          (md_goTo (x1 - 1) s8).bind fun s9 =>
          (md_keep 0 s9).bind fun s10 =>
          md_best_81 sv_FU x1 x2 x3 268435456 0 0 (ms_s s10 31 x1)
abbrev rm_X6_isLevel : Room := { frames := 1, cells := 0, slots := 0, locals := 25 }
def md_isLevel  (x0 : Int32) : Option Int32 :=
  (md_in x0.toInt64 1 999).bind fun r1 =>
  (sv_zb r1).bind fun b2 => some b2
abbrev rm_X6_seldom : Room := { frames := 2, cells := 0, slots := 0, locals := 46 }
def md_seldom_31b (σ : MSt)  (rk_31 : Int32 → Int32 → Int32 → Int32 → Int32 → Option Int32) (x1 : Int32) (x2 : Int32) (x3 : Int32) (x4 : Int32) (x5 : Int32) : Option Int32 :=
  if 100 ≤ x5 then
    some x3
  else
    if x4 < x2 then
      some x3
    else
      (sv_ix x1 4).bind fun j7 =>
      rk_31 x1 x2 x5 ((x4 * (100 - (σ.2 12 j7))) / 100) (x5 + 1)
def md_seldom_31 (σ : MSt)  : Nat → Int32 → Int32 → Int32 → Int32 → Int32 → Option Int32
  | 0, _, _, _, _, _ => none
  | n + 1, x1, x2, x3, x4, x5 => md_seldom_31b σ (md_seldom_31 σ n) x1 x2 x3 x4 x5
def md_seldom (σ : MSt) (x1 : Int32) (x2 : Int32) : Option Int32 :=
  (md_isCoat σ x1).bind fun r1 =>
  if r1 = 0 then
    some (-2)
  else
    (md_isLevel x2).bind fun r3 =>
    if r3 = 0 then
      some (-3)
    else
      md_seldom_31 σ sv_FU x1 x2 (-1) 999 1
abbrev rm_X6_lasts : Room := { frames := 2, cells := 0, slots := 0, locals := 46 }
def md_lasts_66 (σ : MSt)  (x2 : Int32) (x3 : Int32) (x4 : Int32) : Option Int32 :=
  if x3 < x2 then
    some x4
  else
    some (-1)
def md_lasts_31b (σ : MSt)  (rk_31 : Int32 → Int32 → Int32 → Int32 → Option Int32) (x1 : Int32) (x2 : Int32) (x3 : Int32) (x4 : Int32) : Option Int32 :=
  if x3 < x2 then
    md_lasts_66 σ x2 x3 x4
  else
    (sv_ix x1 4).bind fun j7 =>
    if σ.2 12 j7 ≤ 0 then
      md_lasts_66 σ x2 x3 x4
    else
      (sv_ix x1 4).bind fun j9 =>
      rk_31 x1 x2 ((x3 * (100 - (σ.2 12 j9))) / 100) (x4 + 1)
def md_lasts_31 (σ : MSt)  : Nat → Int32 → Int32 → Int32 → Int32 → Option Int32
  | 0, _, _, _, _ => none
  | n + 1, x1, x2, x3, x4 => md_lasts_31b σ (md_lasts_31 σ n) x1 x2 x3 x4
def md_lasts (σ : MSt) (x1 : Int32) (x2 : Int32) : Option Int32 :=
  (md_isCoat σ x1).bind fun r1 =>
  if r1 = 0 then
    some (-2)
  else
    (md_isLevel x2).bind fun r3 =>
    if r3 = 0 then
      some (-3)
    else
      (sv_ix x1 4).bind fun j5 =>
      md_lasts_31 σ sv_FU x1 x2 (σ.2 11 j5) 0
abbrev rm_X6_cheapest : Room := { frames := 5, cells := 0, slots := 0, locals := 120 }
def md_cheapest_101  (rk_56 : Int32 → Int32 → Int32 → Int32 → MSt → Option (Int32 × MSt)) (x3 : Int32) (x5 : Int32) (x6 : Int32) (x7 : Int32) (t0 : Int32) (σ : MSt) : Option (Int32 × MSt) :=
  if x5 ≤ x7 then
    rk_56 x3 t0 x5 (x6 + 1) σ
  else
    rk_56 x3 t0 x7 (x6 + 1) σ
def md_cheapest_56b   (rk_56 : Int32 → Int32 → Int32 → Int32 → MSt → Option (Int32 × MSt)) (x3 : Int32) (x4 : Int32) (x5 : Int32) (x6 : Int32) (σ : MSt) : Option (Int32 × MSt) :=
  if 22 ≤ x6 then
    if x3 = 0 then
      some (x4, σ)
    else
      some (x5, σ)
  else
    (md_lossOf 15 (ms_s σ 28 x6)).bind fun p10 =>
    (md_wages p10.2).bind fun r11 =>
    if x5 ≤ (p10.1 * (p10.2.1 15)) + r11 then
      md_cheapest_101 rk_56 x3 x5 x6 ((p10.1 * (p10.2.1 15)) + r11) x4 p10.2
    else
      md_cheapest_101 rk_56 x3 x5 x6 ((p10.1 * (p10.2.1 15)) + r11) x6 p10.2
def md_cheapest_56   : Nat → Int32 → Int32 → Int32 → Int32 → MSt → Option (Int32 × MSt)
  | 0, _, _, _, _, _ => none
  | n + 1, x3, x4, x5, x6, σ => md_cheapest_56b (md_cheapest_56 n) x3 x4 x5 x6 σ
def md_cheapest  (x1 : Int32) (x2 : Int32) (x3 : Int32) (σ : MSt) : Option (Int32 × MSt) :=
  (md_isCoat σ x1).bind fun r1 =>
  if r1 = 0 then
    some ((-2), σ)
  else
    (md_isField σ x2).bind fun r3 =>
    if r3 = 0 then
      some ((-2), σ)
    else
      (md_in x3.toInt64 0 1).bind fun r5 =>
      if r5 = 0 then
        some ((-3), σ)
      else
        (md_asPlanned σ).bind fun s7 =>
        md_cheapest_56 sv_FU x3 0 268435456 0 (ms_s (ms_s s7 26 x1) 27 x2)
abbrev rm_X6_alone : Room := { frames := 5, cells := 0, slots := 0, locals := 120 }
def md_alone  (x1 : Int32) (σ : MSt) : Option (Int32 × MSt) :=
  (md_asPlanned σ).bind fun s1 =>
  (md_lossOf 15 (ms_s s1 24 x1)).bind fun p2 =>
  some (p2.1, p2.2)
abbrev rm_X6_saved : Room := { frames := 6, cells := 0, slots := 0, locals := 141 }
def md_saved  (x1 : Int32) (σ : MSt) : Option (Int32 × MSt) :=
  (md_in x1.toInt64 0 15).bind fun r1 =>
  if r1 = 0 then
    some ((-3), σ)
  else
    (md_alone 0 σ).bind fun p3 =>
    (md_alone x1 p3.2).bind fun p4 =>
    some (((p3.1 - p4.1) + 100000), p4.2)
abbrev rm_X6_orders : Room := { frames := 0, cells := 0, slots := 0, locals := 0 }
def md_orders  (x0 : Int32) : Option Int32 :=
  if x0 = 0 then
    some 6
  else
    if x0 = 3 then
      some 6
    else
      some 2
abbrev rm_X6_divisor : Room := { frames := 0, cells := 0, slots := 0, locals := 0 }
def md_divisor_17b   (rk_17 : Int64 → Int64 → Option Int64) (x4 : Int64) (x6 : Int64) : Option Int64 :=
  if lg_cmp x6 0 = 0 then
    some x4
  else
    if x6 = 0 then none else
    rk_17 x6 (x4 - x4 / x6 * x6)
def md_divisor_17   : Nat → Int64 → Int64 → Option Int64
  | 0, _, _ => none
  | n + 1, x4, x6 => md_divisor_17b (md_divisor_17 n) x4 x6
def md_divisor  (x0 : Int64) (x2 : Int64) : Option Int64 :=
  if 0 ≤ lg_cmp x0 0 then
    md_divisor_17 sv_FU x0 x2
  else
    md_divisor_17 sv_FU (-x0) x2
abbrev rm_X6_fair : Room := { frames := 6, cells := 0, slots := 0, locals := 141 }
def md_fair_58b   (rk_58 : Int32 → Int32 → Int32 → Int32 → MSt → Option (Int32 × MSt)) (x1 : Int32) (x2 : Int32) (x3 : Int32) (x4 : Int32) (σ : MSt) : Option (Int32 × MSt) :=
  if 16 ≤ x4 then
    (md_divisor (x3.toInt64 + 2400000) 24).bind fun r9 =>
    if x2 = 0 then
      if r9 = 0 then none else
      some ((((x3.toInt64 + 2400000) / r9).toInt32), σ)
    else
      if r9 = 0 then none else
      some (((24 / r9).toInt32), σ)
  else
    (md_has x4 x1).bind fun r11 =>
    if r11 = 0 then
      (md_orders ((((x4 &&& 1) + ((x4 >>> ((1 : Int32) &&& 31)) &&& 1)) + ((x4 >>> ((2 : Int32) &&& 31)) &&& 1)) + ((x4 >>> ((3 : Int32) &&& 31)) &&& 1))).bind fun r13 =>
      (sv_ix x4 16).bind fun j14 =>
      (sv_ix (x4 ||| ((1 : Int32) <<< (x1 &&& 31))) 16).bind fun j15 =>
      rk_58 x1 x2 (x3 + (r13 * ((σ.2 39 j14) - (σ.2 39 j15)))) (x4 + 1) σ
    else
      rk_58 x1 x2 (x3 + 0) (x4 + 1) σ
def md_fair_58   : Nat → Int32 → Int32 → Int32 → Int32 → MSt → Option (Int32 × MSt)
  | 0, _, _, _, _, _ => none
  | n + 1, x1, x2, x3, x4, σ => md_fair_58b (md_fair_58 n) x1 x2 x3 x4 σ
def md_fair_30b   (rk_30 : Int32 → Int32 → Int32 → MSt → Option (Int32 × MSt)) (x1 : Int32) (x2 : Int32) (x3 : Int32) (σ : MSt) : Option (Int32 × MSt) :=
  if 16 ≤ x3 then
    md_fair_58 sv_FU x1 x2 0 0 σ
  else
    (md_alone x3 σ).bind fun p6 =>
    (sv_ix x3 16).bind fun j7 =>
    rk_30 x1 x2 (x3 + 1) (ms_a p6.2 39 j7 p6.1)
def md_fair_30   : Nat → Int32 → Int32 → Int32 → MSt → Option (Int32 × MSt)
  | 0, _, _, _, _ => none
  | n + 1, x1, x2, x3, σ => md_fair_30b (md_fair_30 n) x1 x2 x3 σ
def md_fair  (x1 : Int32) (x2 : Int32) (σ : MSt) : Option (Int32 × MSt) :=
  (md_in x1.toInt64 0 3).bind fun r1 =>
  if r1 = 0 then
    some ((-2), σ)
  else
    (md_in x2.toInt64 0 1).bind fun r3 =>
    if r3 = 0 then
      some ((-3), σ)
    else
      md_fair_30 sv_FU x1 x2 0 σ
abbrev rm_X6_free : Room := { frames := 5, cells := 0, slots := 0, locals := 120 }
def md_free  (x1 : Int32) (σ : MSt) : Option (Int32 × MSt) :=
  (md_in x1.toInt64 0 3).bind fun r1 =>
  if r1 = 0 then
    some ((-2), σ)
  else
    (md_asPlanned σ).bind fun s3 =>
    (md_lossOf ((1 : Int32) <<< (x1 &&& 31)) (ms_s s3 24 (15 &&& (((1 : Int32) <<< (x1 &&& 31)) ^^^ (-1))))).bind fun p4 =>
    (md_lossOf ((1 : Int32) <<< (x1 &&& 31)) (ms_s p4.2 24 0)).bind fun p5 =>
    some (((p4.1 - p5.1) + 100000), p5.2)
abbrev rm_X6_matters : Room := { frames := 5, cells := 0, slots := 0, locals := 120 }
def md_matters_15b   (rk_15 : Int32 → Int32 → Int32 → MSt → Option (Int32 × MSt)) (x1 : Int32) (x2 : Int32) (x3 : Int32) (σ : MSt) : Option (Int32 × MSt) :=
  if 4 ≤ x3 then
    some (x2, σ)
  else
    (md_has (σ.1 10) x3).bind fun r4 =>
    if r4 = 0 then
      rk_15 x1 (x2 ||| 0) (x3 + 1) (ms_s σ 25 x3)
    else
      (md_lossOf 15 (ms_s σ 25 x3)).bind fun p6 =>
      if p6.1 = x1 then
        rk_15 x1 (x2 ||| 0) (x3 + 1) p6.2
      else
        rk_15 x1 (x2 ||| ((1 : Int32) <<< (x3 &&& 31))) (x3 + 1) p6.2
def md_matters_15   : Nat → Int32 → Int32 → Int32 → MSt → Option (Int32 × MSt)
  | 0, _, _, _, _ => none
  | n + 1, x1, x2, x3, σ => md_matters_15b (md_matters_15 n) x1 x2 x3 σ
def md_matters  (σ : MSt) : Option (Int32 × MSt) :=
  (md_asPlanned σ).bind fun s1 =>
  (md_lossOf 15 s1).bind fun p2 =>
  md_matters_15 sv_FU p2.1 0 0 p2.2
abbrev rm_X6_counted : Room := { frames := 1, cells := 0, slots := 0, locals := 25 }
def md_counted  (x1 : Int32) (x2 : Int32) (x3 : Int32) (σ : MSt) : Option (Int32 × MSt) :=
  (md_in x1.toInt64 0 20).bind fun r1 =>
  if r1 = 0 then
    some ((-2), σ)
  else
    (md_in x2.toInt64 0 3).bind fun r3 =>
    if r3 = 0 then
      some ((-2), σ)
    else
      (md_in x3.toInt64 0 999).bind fun r5 =>
      if r5 = 0 then
        some ((-3), σ)
      else
        if σ.1 20 = 12 then
          some ((-5), σ)
        else
          (sv_ix (3 * (σ.1 20)) 36).bind fun j8 =>
          (sv_ix ((3 * (σ.1 20)) + 1) 36).bind fun j9 =>
          (sv_ix ((3 * (σ.1 20)) + 2) 36).bind fun j10 =>
          some (((σ.1 20) + 1), (ms_s (ms_a (ms_a (ms_a σ 19 j8 x1) 19 j9 x2) 19 j10 x3) 20 ((σ.1 20) + 1)))
abbrev rm_X6_holds : Room := { frames := 4, cells := 0, slots := 0, locals := 96 }
def md_holds_113  (rk_6 : Int32 → MSt → Option (Int32 × MSt)) (rk_55 : Int32 → Int32 → MSt → Option (Int32 × MSt)) (x1 : Int32) (x2 : Int32) (t0 : Int32) (t1 : Int32) (σ : MSt) : Option (Int32 × MSt) :=
  if t0 = t1 then
    rk_55 x1 (x2 + 3) σ
  else
    some (0, σ)
def md_holds_55b  (rk_6 : Int32 → MSt → Option (Int32 × MSt)) (rk_55 : Int32 → Int32 → MSt → Option (Int32 × MSt)) (x1 : Int32) (x2 : Int32) (σ : MSt) : Option (Int32 × MSt) :=
  if 3 * (σ.1 20) ≤ x2 then
    rk_6 (x1 + 1) σ
  else
    (sv_ix (x2 + 1) 36).bind fun j9 =>
    (sv_ix x2 36).bind fun j10 =>
    if σ.2 19 j10 = x1 then
      (sv_ix (x2 + 2) 36).bind fun j12 =>
      (md_has (σ.1 4) (σ.2 19 j9)).bind fun r13 =>
      if r13 = 0 then
        md_holds_113 rk_6 rk_55 x1 x2 (σ.2 19 j12) 0 σ
      else
        (sv_ix (σ.2 19 j9) 4).bind fun j15 =>
        md_holds_113 rk_6 rk_55 x1 x2 (σ.2 19 j12) (σ.2 36 j15) σ
    else
      rk_55 x1 (x2 + 3) σ
def md_holds_55  (rk_6 : Int32 → MSt → Option (Int32 × MSt)) : Nat → Int32 → Int32 → MSt → Option (Int32 × MSt)
  | 0, _, _, _ => none
  | n + 1, x1, x2, σ => md_holds_55b rk_6 (md_holds_55 rk_6 n) x1 x2 σ
def md_holds_40  (rk_6 : Int32 → MSt → Option (Int32 × MSt)) (x1 : Int32) (σ : MSt) : Option (Int32 × MSt) :=
  if σ.1 16 ≤ x1 then
    md_holds_55 rk_6 sv_FU x1 0 σ
  else
    (md_goDay x1 σ).bind fun s7 =>
    md_holds_55 rk_6 sv_FU x1 0 s7
def md_holds_14b  (rk_6 : Int32 → MSt → Option (Int32 × MSt)) (rk_14 : Int32 → Int32 → MSt → Option (Int32 × MSt)) (x1 : Int32) (x2 : Int32) (σ : MSt) : Option (Int32 × MSt) :=
  if 4 ≤ x2 then
    md_holds_40 rk_6 x1 σ
  else
    if x1 < σ.1 16 then
      md_holds_40 rk_6 x1 σ
    else
      (sv_ix x2 4).bind fun j5 =>
      rk_14 x1 (x2 + 1) (ms_a σ 36 j5 0)
def md_holds_14  (rk_6 : Int32 → MSt → Option (Int32 × MSt)) : Nat → Int32 → Int32 → MSt → Option (Int32 × MSt)
  | 0, _, _, _ => none
  | n + 1, x1, x2, σ => md_holds_14b rk_6 (md_holds_14 rk_6 n) x1 x2 σ
def md_holds_6b   (rk_6 : Int32 → MSt → Option (Int32 × MSt)) (x1 : Int32) (σ : MSt) : Option (Int32 × MSt) :=
  if 21 ≤ x1 then
    some (1, σ)
  else
    md_holds_14 rk_6 sv_FU x1 0 σ
def md_holds_6   : Nat → Int32 → MSt → Option (Int32 × MSt)
  | 0, _, _ => none
  | n + 1, x1, σ => md_holds_6b (md_holds_6 n) x1 σ
def md_holds  (σ : MSt) : Option (Int32 × MSt) :=
  (md_begin σ).bind fun s1 =>
  md_holds_6 sv_FU 0 s1
abbrev rm_X6_learnt : Room := { frames := 5, cells := 0, slots := 0, locals := 119 }
def md_learnt_26b   (rk_26 : Int32 → Int32 → Int32 → Int32 → MSt → Option (Int32 × MSt)) (x1 : Int32) (x2 : Int32) (x3 : Int32) (x4 : Int32) (σ : MSt) : Option (Int32 × MSt) :=
  if 1100 ≤ x4 then
    if x1 = 0 then
      some (x2, σ)
    else
      if x3 = (-1) then
        some ((-1), σ)
      else
        if x1 = 1 then
          some ((x3 / 11), σ)
        else
          some (((x3 - x3 / 11 * 11) * 10), σ)
  else
    (md_holds (ms_s (ms_s σ 29 (x4 / 11)) 30 ((x4 - x4 / 11 * 11) * 10))).bind fun p8 =>
    if p8.1 = 0 then
      rk_26 x1 x2 x3 (x4 + 1) p8.2
    else
      if x2 = 0 then
        rk_26 x1 (x2 + 1) x4 (x4 + 1) p8.2
      else
        rk_26 x1 (x2 + 1) x3 (x4 + 1) p8.2
def md_learnt_26   : Nat → Int32 → Int32 → Int32 → Int32 → MSt → Option (Int32 × MSt)
  | 0, _, _, _, _, _ => none
  | n + 1, x1, x2, x3, x4, σ => md_learnt_26b (md_learnt_26 n) x1 x2 x3 x4 σ
def md_learnt  (x1 : Int32) (σ : MSt) : Option (Int32 × MSt) :=
  (md_in x1.toInt64 0 2).bind fun r1 =>
  if r1 = 0 then
    some ((-3), σ)
  else
    (md_asPlanned σ).bind fun s3 =>
    md_learnt_26 sv_FU x1 0 (-1) 0 s3
abbrev rm_X6_many : Room := { frames := 0, cells := 0, slots := 0, locals := 0 }
def md_many  (x0 : Int32) : Option Int32 :=
  some ((((x0 &&& 1) + ((x0 >>> ((1 : Int32) &&& 31)) &&& 1)) + ((x0 >>> ((2 : Int32) &&& 31)) &&& 1)) + ((x0 >>> ((3 : Int32) &&& 31)) &&& 1))
abbrev rm_X6_count : Room := { frames := 1, cells := 0, slots := 0, locals := 20 }
def md_count (σ : MSt) (x1 : Int32) : Option Int32 :=
  if x1 = 0 then
    (md_many (σ.1 4)).bind fun r2 =>
    some r2
  else
    if x1 = 1 then
      (md_many (σ.1 8)).bind fun r4 =>
      some r4
    else
      if x1 = 2 then
        (md_many (σ.1 10)).bind fun r6 =>
        some r6
      else
        if x1 = 3 then
          some (σ.1 1)
        else
          if x1 = 4 then
            some (σ.1 13)
          else
            if x1 = 5 then
              some (σ.1 14)
            else
              if x1 = 6 then
                some (σ.1 15)
              else
                if x1 = 7 then
                  some (σ.1 16)
                else
                  if x1 = 8 then
                    some (σ.1 20)
                  else
                    some (-3)
