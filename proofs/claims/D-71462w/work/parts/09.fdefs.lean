set_option maxRecDepth 100000
def f_X1_out (x1 : Int32) : Option (Int32) :=
  some x1
def f_X2_out (x1 : Int32) (x2 : Int32) : Option (Int32) :=
  b1 (f_X1_out x1) fun r_1 =>
  if x2 = 7 then
    some r_1
  else
    if x2 = 8 then
      some r_1
    else
      some (r_1 + r_1)
def f_X0_in (x0 : Int64) (x2 : Int64) (x4 : Int64) : Option (Int32) :=
  if (lg_cmp x0 x2) < 0 then
    some 0
  else
    if 0 < (lg_cmp x0 x4) then
      some 0
    else
      some 1
def f_J2_max (x0 : Int32) (x1 : Int32) : Option (Int32) :=
  if x0 < x1 then
    some x1
  else
    some x0
def f_X3_out (x1 : Int32) (x2 : Int32) : Option (Int32) :=
  b1 (f_X2_out x1 x2) fun r_1 =>
  b1 (f_X0_in x2.toInt64 9 11) fun r_2 =>
  if r_2 = 0 then
    some r_1
  else
    b1 (f_J2_max 0 (r_1 - 2)) fun r_4 =>
    some r_4
def f_X4_out (x1 : Int32) (x2 : Int32) : Option (Int32) :=
  b1 (f_X0_in x2.toInt64 15 16) fun r_1 =>
  if r_1 = 0 then
    b1 (f_X3_out x1 x2) fun r_3 =>
    some r_3
  else
    some 0
def f_X5_out (x1 : Int32) (x3 : Int32) : Option (Int32) :=
  b1 (f_X1_out x1) fun r_1 =>
  some (r_1 + x3)
def f_J0_init  : Option (Unit) :=
  some ()
def t_J1_circularClear_L12 (x2 : Int32) (k : Int32 → Int32 → (Nat → Option Nat) → Option ((Nat → Option Nat))) (x1 : Int32) (x3 : Int32) (t0 : Nat → Option Nat) : Option ((Nat → Option Nat)) :=
  if x3 ≤ x1 then
    if x3 = x2 then
      some t0
    else
      k 0 x2 t0
  else
    if x1 < 0 ∨ 17 ≤ x1.toNatClampNeg then none else
    k (x1 + 1) x3 (va_up t0 x1.toNatClampNeg none)
def f_J1_circularClear_L12 (x2 : Int32) : Nat → Int32 → Int32 → (Nat → Option Nat) → Option ((Nat → Option Nat)) := lpf3 (t_J1_circularClear_L12 x2)
def f_J1_circularClear (x1 : Int32) (x2 : Int32) (t0 : Nat → Option Nat) : Option ((Nat → Option Nat)) :=
  b1 (
    if x2 < x1 then
      some 17
    else
      some x2
   : Option (Int32)) fun z_2 =>
  b1 (f_J1_circularClear_L12 x2 FU x1 z_2 t0) fun t0_7 =>
  some t0_7
def f_J1_clear (head : Int32) (tail : Int32) (elements : Nat → Option Nat) : Option (Int32 × Int32 × (Nat → Option Nat)) :=
  b1 (f_J1_circularClear head tail elements) fun elements_1 =>
  some (0, 0, elements_1)
def f_J1_sub (x0 : Int32) (x1 : Int32) (x2 : Int32) : Option (Int32) :=
  if 0 ≤ (x0 - x1) then
    some (x0 - x1)
  else
    some ((x0 - x1) + x2)
def f_J1_size (head : Int32) (tail : Int32) : Option (Int32) :=
  b1 (f_J1_sub tail head 17) fun r_1 =>
  some r_1
def f_J1_elementAt (x1 : Int32) (t0 : Nat → Option Nat) : Option (Nat) :=
  if x1 < 0 ∨ 17 ≤ x1.toNatClampNeg then none else
  oc (t0 x1.toNatClampNeg) (
    none) fun p2 =>
  some p2
def f_J1_inc (x0 : Int32) (x1 : Int32) : Option (Int32) :=
  if (x0 + 1) < x1 then
    some (x0 + 1)
  else
    some 0
def f_J1_pollFirst (head : Int32) (elements : Nat → Option Nat) : Option (Nat × Int32 × (Nat → Option Nat)) :=
  b1 (f_J1_elementAt head elements) fun p_1 =>
  if head < 0 ∨ 17 ≤ head.toNatClampNeg then none else
  b1 (f_J1_inc head 17) fun r_3 =>
  some (p_1, r_3, va_up elements head.toNatClampNeg none)
def f_J1_removeFirst (head : Int32) (elements : Nat → Option Nat) : Option (Nat × Int32 × (Nat → Option Nat)) :=
  b3 (f_J1_pollFirst head elements) fun p_1 head_2 elements_3 =>
  some (p_1, head_2, elements_3)
def f_J1_newCapacity (x1 : Int32) (x2 : Int32) : Option (Int32) :=
  if ((17 + x1) - 2147483639) ≤ 0 then
    if x1 ≤ x2 then
      if 0 ≤ ((17 + x2) - 2147483639) then
        some 2147483639
      else
        some (17 + x2)
    else
      some (17 + x1)
  else
    if 0 ≤ (17 + x1) then
      some 2147483647
    else
      none
def f_J1_addLast (a_t1 : Nat) (head : Int32) (tail : Int32) (elements : Nat → Option Nat) : Option (Int32 × (Nat → Option Nat)) :=
  if tail < 0 ∨ 17 ≤ tail.toNatClampNeg then none else
  b1 (f_J1_inc tail 17) fun r_2 =>
  if head = r_2 then
    none
  else
    some (r_2, va_up elements tail.toNatClampNeg (some a_t1))
def f_J1_isEmpty (head : Int32) (tail : Int32) : Option (Int32) :=
  if head = tail then
    some 1
  else
    some 0
def f_J1_dec (x0 : Int32) (x1 : Int32) : Option (Int32) :=
  if 0 ≤ (x0 + (-1)) then
    some (x0 + (-1))
  else
    some (x1 - 1)
def f_J1_pollLast (tail : Int32) (elements : Nat → Option Nat) : Option (Nat × Int32 × (Nat → Option Nat)) :=
  b1 (f_J1_dec tail 17) fun r_1 =>
  b1 (f_J1_elementAt r_1 elements) fun p_2 =>
  if r_1 < 0 ∨ 17 ≤ r_1.toNatClampNeg then none else
  some (p_2, r_1, va_up elements r_1.toNatClampNeg none)
def f_J1_removeLast (tail : Int32) (elements : Nat → Option Nat) : Option (Nat × Int32 × (Nat → Option Nat)) :=
  b3 (f_J1_pollLast tail elements) fun p_1 tail_2 elements_3 =>
  some (p_1, tail_2, elements_3)
def f_J14_init (t1_head : Int32) (t1_tail : Int32) : Option (Int32 × Int32 × Int32) :=
  b1 (f_J1_size t1_head t1_tail) fun r_1 =>
  some (t1_head, r_1, (-1))
def f_J1_iterator (head : Int32) (tail : Int32) : Option (Int32 × Int32 × Int32) :=
  b3 (f_J14_init head tail) fun q1_f0_2 q1_f1_3 q1_f2_4 =>
  some (q1_f0_2, q1_f1_3, q1_f2_4)
def f_J1_nonNullElementAt (x1 : Int32) (t0 : Nat → Option Nat) : Option (Nat) :=
  if x1 < 0 ∨ 17 ≤ x1.toNatClampNeg then none else
  oc (t0 x1.toNatClampNeg) (
    none) fun p2 =>
  some p2
def f_J1_init  : Option (Unit) :=
  b1 (f_J0_init) fun u_1 =>
  some ()
def f_J13_bitCount (x0 : Int32) : Option (Int32) :=
  nm (x0 - ((x0.toUInt32 >>> ((1 : Int32).toUInt32 &&& Int32.toUInt32 31)).toInt32 &&& 1431655765)) fun y_1 =>
  nm ((y_1 &&& 858993459) + ((y_1.toUInt32 >>> ((2 : Int32).toUInt32 &&& Int32.toUInt32 31)).toInt32 &&& 858993459)) fun y_2 =>
  nm ((y_2 + (y_2.toUInt32 >>> ((4 : Int32).toUInt32 &&& Int32.toUInt32 31)).toInt32) &&& 252645135) fun y_3 =>
  nm (y_3 + (y_3.toUInt32 >>> ((8 : Int32).toUInt32 &&& Int32.toUInt32 31)).toInt32) fun y_4 =>
  nm (y_4 + (y_4.toUInt32 >>> ((16 : Int32).toUInt32 &&& Int32.toUInt32 31)).toInt32) fun y_5 =>
  some (y_5 &&& 63)
def f_J13_numberOfTrailingZeros (x0 : Int32) : Option (Int32) :=
  if 0 < ((x0 ^^^ (-1)) &&& (x0 - 1)) then
    b2 (
      if ((x0 ^^^ (-1)) &&& (x0 - 1)) ≤ 65536 then
        some (((x0 ^^^ (-1)) &&& (x0 - 1)), 1)
      else
        nm ((((x0 ^^^ (-1)) &&& (x0 - 1)).toUInt32 >>> ((16 : Int32).toUInt32 &&& Int32.toUInt32 31)).toInt32) fun y_6 =>
        some (y_6, (1 + 16))
     : Option (Int32 × Int32)) fun x0_4 x1_5 =>
    b2 (
      if x0_4 ≤ 256 then
        some (x0_4, x1_5)
      else
        nm ((x0_4.toUInt32 >>> ((8 : Int32).toUInt32 &&& Int32.toUInt32 31)).toInt32) fun y_11 =>
        some (y_11, (x1_5 + 8))
     : Option (Int32 × Int32)) fun x0_9 x1_10 =>
    b2 (
      if x0_9 ≤ 16 then
        some (x0_9, x1_10)
      else
        nm ((x0_9.toUInt32 >>> ((4 : Int32).toUInt32 &&& Int32.toUInt32 31)).toInt32) fun y_16 =>
        some (y_16, (x1_10 + 4))
     : Option (Int32 × Int32)) fun x0_14 x1_15 =>
    if x0_14 ≤ 4 then
      some (x1_15 + (x0_14.toUInt32 >>> ((1 : Int32).toUInt32 &&& Int32.toUInt32 31)).toInt32)
    else
      nm ((x0_14.toUInt32 >>> ((2 : Int32).toUInt32 &&& Int32.toUInt32 31)).toInt32) fun y_18 =>
      some ((x1_15 + 2) + (y_18.toUInt32 >>> ((1 : Int32).toUInt32 &&& Int32.toUInt32 31)).toInt32)
  else
    some (((x0 ^^^ (-1)) &&& (x0 - 1)) &&& 32)
def f_J13_numberOfLeadingZeros (x0 : Int32) : Option (Int32) :=
  if 0 < x0 then
    b2 (
      if x0 < 65536 then
        some (x0, 31)
      else
        nm ((x0.toUInt32 >>> ((16 : Int32).toUInt32 &&& Int32.toUInt32 31)).toInt32) fun y_6 =>
        some (y_6, (31 + (-16)))
     : Option (Int32 × Int32)) fun x0_4 x1_5 =>
    b2 (
      if x0_4 < 256 then
        some (x0_4, x1_5)
      else
        nm ((x0_4.toUInt32 >>> ((8 : Int32).toUInt32 &&& Int32.toUInt32 31)).toInt32) fun y_11 =>
        some (y_11, (x1_5 + (-8)))
     : Option (Int32 × Int32)) fun x0_9 x1_10 =>
    b2 (
      if x0_9 < 16 then
        some (x0_9, x1_10)
      else
        nm ((x0_9.toUInt32 >>> ((4 : Int32).toUInt32 &&& Int32.toUInt32 31)).toInt32) fun y_16 =>
        some (y_16, (x1_10 + (-4)))
     : Option (Int32 × Int32)) fun x0_14 x1_15 =>
    if x0_14 < 4 then
      some (x1_15 - (x0_14.toUInt32 >>> ((1 : Int32).toUInt32 &&& Int32.toUInt32 31)).toInt32)
    else
      nm ((x0_14.toUInt32 >>> ((2 : Int32).toUInt32 &&& Int32.toUInt32 31)).toInt32) fun y_18 =>
      some ((x1_15 + (-2)) - (y_18.toUInt32 >>> ((1 : Int32).toUInt32 &&& Int32.toUInt32 31)).toInt32)
  else
    if x0 = 0 then
      some 32
    else
      some 0
def f_J14_hasNext (remaining : Int32) : Option (Int32) :=
  if remaining ≤ 0 then
    some 0
  else
    some 1
def f_J14_next (cursor : Int32) (remaining : Int32) (this0_elements : Nat → Option Nat) : Option (Nat × Int32 × Int32 × Int32) :=
  if 0 < remaining then
    b1 (f_J1_nonNullElementAt cursor this0_elements) fun p_2 =>
    b1 (f_J1_inc cursor 17) fun r_3 =>
    some (p_2, r_3, (remaining - 1), cursor)
  else
    none
def f_J2_abs (x0 : Int64) : Option (Int64) :=
  if 0 ≤ (lg_cmp x0 0) then
    some x0
  else
    some (-x0)
def f_J2_min (x0 : Int32) (x1 : Int32) : Option (Int32) :=
  if x1 < x0 then
    some x1
  else
    some x0
def f_J2_floorDiv (x0 : Int64) (x2 : Int64) : Option (Int64) :=
  if x2 = 0 then none else
  if 0 ≤ (lg_cmp (x0 ^^^ x2) 0) then
    some (x0 / x2)
  else
    if (lg_cmp ((x0 / x2) * x2) x0) = 0 then
      some (x0 / x2)
    else
      some ((x0 / x2) - 1)
def f_J2_min_2 (x0 : Int64) (x2 : Int64) : Option (Int64) :=
  if 0 < (lg_cmp x0 x2) then
    some x2
  else
    some x0
def f_J2_max_2 (x0 : Int64) (x2 : Int64) : Option (Int64) :=
  if (lg_cmp x0 x2) < 0 then
    some x2
  else
    some x0
def f_X6_takesHold (x1 : Int32) (x2 : Int64) (holders : Int32) (place : Nat → Int32) : Option (Int32 × (Nat → Int32)) :=
  if x1 < 0 ∨ 8 ≤ x1.toNatClampNeg then none else
  some ((holders ||| (1 <<< (x1 &&& 31))), upd place x1.toNatClampNeg (vp_nar .byte x2.toInt32.toInt8.toInt32))
def f_X0_comes (x1 : Int32) (x2 : Int32) (x3 : Int32) (x4 : Int32) (x5 : Int32) (town_n : Int32) (town_holders : Int32) (town_kind : Nat → Int32) (town_strength : Nat → Int32) (town_place : Nat → Int32) (town_length : Nat → Int32) (town_gives : Nat → Int32) : Option (Int32 × Int32 × (Nat → Int32) × (Nat → Int32) × (Nat → Int32) × (Nat → Int32) × (Nat → Int32)) :=
  if town_n < 0 ∨ 8 ≤ town_n.toNatClampNeg then none else
  b2 (f_X6_takesHold town_n x3.toInt64 town_holders town_place) fun town_holders_2 town_place_3 =>
  if town_n = 0 then
    some ((town_n + 1), town_holders_2, upd town_kind town_n.toNatClampNeg (vp_nar .byte x1.toInt8.toInt32), upd town_strength town_n.toNatClampNeg (vp_nar .byte x2.toInt8.toInt32), town_place_3, town_length, town_gives)
  else
    if (town_n - 1) < 0 ∨ 8 ≤ (town_n - 1).toNatClampNeg then none else
    some ((town_n + 1), town_holders_2, upd town_kind town_n.toNatClampNeg (vp_nar .byte x1.toInt8.toInt32), upd town_strength town_n.toNatClampNeg (vp_nar .byte x2.toInt8.toInt32), town_place_3, upd town_length (town_n - 1).toNatClampNeg (vp_nar .byte x4.toInt8.toInt32), upd town_gives (town_n - 1).toNatClampNeg (vp_nar .byte x5.toInt8.toInt32))
def f_X6_isCut (x1 : Int32) (cuts : Int32) : Option (Int32) :=
  if ((cuts >>> (x1 &&& 31)) &&& 1) = 1 then
    some 1
  else
    some 0
def f_X6_holds (x1 : Int32) (holders : Int32) : Option (Int32) :=
  if ((holders >>> (x1 &&& 31)) &&& 1) = 1 then
    some 1
  else
    some 0
def t_X6_pulls_L20 (x2 : Int32) (length : Nat → Int32) (gives : Nat → Int32) (k : Int32 → Int32 → Int32 → Option (Int32 × Int32)) (x3 : Int32) (x4 : Int32) (x5 : Int32) : Option (Int32 × Int32) :=
  if x2 ≤ x5 then
    some (x3, x4)
  else
    if x5 < 0 ∨ 8 ≤ x5.toNatClampNeg then none else
    k (x3 - (length x5.toNatClampNeg)) (x4 + (gives x5.toNatClampNeg)) (x5 + 1)
def f_X6_pulls_L20 (x2 : Int32) (length : Nat → Int32) (gives : Nat → Int32) : Nat → Int32 → Int32 → Int32 → Option (Int32 × Int32) := lpf3 (t_X6_pulls_L20 x2 length gives)
def t_X6_pulls_L62 (x2 : Int32) (x3 : Int32) (x4 : Int32) (k : Int32 → (Nat → Int32) → (Nat → Int32) → Option ((Nat → Int32) × (Nat → Int32))) (x5 : Int32) (over : Nat → Int32) (under : Nat → Int32) : Option ((Nat → Int32) × (Nat → Int32)) :=
  if x2 ≤ x5 then
    some (over, under)
  else
    if x5 < 0 ∨ 8 ≤ x5.toNatClampNeg then none else
    k (x5 + 1) (upd over x5.toNatClampNeg x3) (upd under x5.toNatClampNeg x4)
def f_X6_pulls_L62 (x2 : Int32) (x3 : Int32) (x4 : Int32) : Nat → Int32 → (Nat → Int32) → (Nat → Int32) → Option ((Nat → Int32) × (Nat → Int32)) := lpf3 (t_X6_pulls_L62 x2 x3 x4)
def f_X6_pulls (x1 : Int32) (x2 : Int32) (place : Nat → Int32) (length : Nat → Int32) (gives : Nat → Int32) (over : Nat → Int32) (under : Nat → Int32) : Option ((Nat → Int32) × (Nat → Int32)) :=
  if x2 < 0 ∨ 8 ≤ x2.toNatClampNeg then none else
  if x1 < 0 ∨ 8 ≤ x1.toNatClampNeg then none else
  nm ((place x2.toNatClampNeg) - (place x1.toNatClampNeg)) fun y_3 =>
  b2 (f_X6_pulls_L20 x2 length gives FU y_3 0 x1) fun x3_6 x4_7 =>
  if 0 < x3_6 then
    b2 (f_X6_pulls_L62 x2 x3_6 x4_7 FU x1 over under) fun over_11 under_12 =>
    some (over_11, under_12)
  else
    some (over, under)
def t_X6_measured_L5 (n : Int32) (holders : Int32) (cuts : Int32) (place : Nat → Int32) (length : Nat → Int32) (gives : Nat → Int32) (k : Int32 → Int32 → (Nat → Int32) → (Nat → Int32) → Option ((Nat → Int32) × (Nat → Int32))) (x1 : Int32) (x2 : Int32) (over : Nat → Int32) (under : Nat → Int32) : Option ((Nat → Int32) × (Nat → Int32)) :=
  if n ≤ x2 then
    some (over, under)
  else
    if x2 < 0 ∨ 8 ≤ x2.toNatClampNeg then none else
    b1 (
      if x2 ≤ 0 then
        some x1
      else
        b1 (f_X6_isCut (x2 - 1) cuts) fun r_7 =>
        if r_7 = 0 then
          some x1
        else
          some (-4)
     : Option (Int32)) fun x1_6 =>
    b1 (f_X6_holds x2 holders) fun r_9 =>
    if r_9 = 0 then
      k x1_6 (x2 + 1) (upd over x2.toNatClampNeg 0) (upd under x2.toNatClampNeg 1)
    else
      if x1_6 = (-4) then
        k x2 (x2 + 1) (upd over x2.toNatClampNeg 0) (upd under x2.toNatClampNeg 1)
      else
        b2 (f_X6_pulls x1_6 x2 place length gives (upd over x2.toNatClampNeg 0) (upd under x2.toNatClampNeg 1)) fun over_12 under_13 =>
        k x2 (x2 + 1) over_12 under_13
def f_X6_measured_L5 (n : Int32) (holders : Int32) (cuts : Int32) (place : Nat → Int32) (length : Nat → Int32) (gives : Nat → Int32) : Nat → Int32 → Int32 → (Nat → Int32) → (Nat → Int32) → Option ((Nat → Int32) × (Nat → Int32)) := lpf4 (t_X6_measured_L5 n holders cuts place length gives)
def f_X6_measured (n : Int32) (holders : Int32) (cuts : Int32) (place : Nat → Int32) (length : Nat → Int32) (gives : Nat → Int32) (over : Nat → Int32) (under : Nat → Int32) : Option ((Nat → Int32) × (Nat → Int32)) :=
  b2 (f_X6_measured_L5 n holders cuts place length gives FU (-4) 0 over under) fun over_14 under_15 =>
  some (over_14, under_15)
def t_X0_tears_L7 (t1_n : Int32) (t1_holders : Int32) (t1_gives : Nat → Int32) (k : Int32 → Int32 → Option (Int32)) (x3 : Int32) (x4 : Int32) : Option (Int32) :=
  if (t1_n - 1) ≤ x4 then
    some x3
  else
    b1 (f_X6_holds x4 t1_holders) fun r_2 =>
    if r_2 = 0 then
      if x4 < 0 ∨ 8 ≤ x4.toNatClampNeg then none else
      if x3 < 0 ∨ 8 ≤ x3.toNatClampNeg then none else
      if (t1_gives x4.toNatClampNeg) ≤ (t1_gives x3.toNatClampNeg) then
        k x3 (x4 + 1)
      else
        k x4 (x4 + 1)
    else
      some x3
def f_X0_tears_L7 (t1_n : Int32) (t1_holders : Int32) (t1_gives : Nat → Int32) : Nat → Int32 → Int32 → Option (Int32) := lpf2 (t_X0_tears_L7 t1_n t1_holders t1_gives)
def f_X0_tears (x2 : Int32) (tears : Int32) (t1_n : Int32) (t1_holders : Int32) (t1_cuts : Int32) (t1_gives : Nat → Int32) : Option (Int32 × Int32) :=
  b1 (f_X0_tears_L7 t1_n t1_holders t1_gives FU x2 (x2 + 1)) fun x3_7 =>
  some ((tears + 1), (t1_cuts ||| (1 <<< (x3_7 &&& 31))))
def f_X6_belowRight (x1 : Int32) (n : Int32) (under : Nat → Int32) : Option (Int32) :=
  if (n - 1) ≤ x1 then
    some 1
  else
    if x1 < 0 ∨ 8 ≤ x1.toNatClampNeg then none else
    some (under x1.toNatClampNeg)
def f_X6_pulledBy (x1 : Int32) (n : Int32) (holders : Int32) (over : Nat → Int32) (under : Nat → Int32) : Option (Int64) :=
  b1 (f_X6_holds x1 holders) fun r_1 =>
  if r_1 = 0 then
    some 0
  else
    b1 (
      if (n - 1) ≤ x1 then
        some 0
      else
        if x1 < 0 ∨ 8 ≤ x1.toNatClampNeg then none else
        some ((over x1.toNatClampNeg).toInt64)
     : Option (Int64)) fun z_5 =>
    if x1 = 0 then
      some z_5
    else
      if (x1 - 1) < 0 ∨ 8 ≤ (x1 - 1).toNatClampNeg then none else
      b1 (f_X6_belowRight x1 n under) fun r_9 =>
      some ((z_5 * (under (x1 - 1).toNatClampNeg).toInt64) - ((over (x1 - 1).toNatClampNeg).toInt64 * r_9.toInt64))
def f_X6_holdsOut (x1 : Int32) (n : Int32) (holders : Int32) (hour : Int32) (kind : Nat → Int32) (strength : Nat → Int32) : Option (Int32) :=
  b1 (
    if x1 ≤ 0 then
      some 0
    else
      b1 (f_X6_holds (x1 - 1) holders) fun r_5 =>
      if r_5 = 0 then
        some (0 + 1)
      else
        some 0
   : Option (Int32)) fun x2_4 =>
  b1 (
    if (n - 1) ≤ x1 then
      some x2_4
    else
      b1 (f_X6_holds (x1 + 1) holders) fun r_11 =>
      if r_11 = 0 then
        some (x2_4 + 1)
      else
        some x2_4
   : Option (Int32)) fun x2_10 =>
  if x1 < 0 ∨ 8 ≤ x1.toNatClampNeg then none else
  if (kind x1.toNatClampNeg) = 0 then
    b1 (f_X1_out (strength x1.toNatClampNeg)) fun r_15 =>
    some r_15
  else
    if (kind x1.toNatClampNeg) = 1 then
      b1 (f_X2_out (strength x1.toNatClampNeg) hour) fun r_17 =>
      some r_17
    else
      if (kind x1.toNatClampNeg) = 2 then
        b1 (f_X3_out (strength x1.toNatClampNeg) hour) fun r_19 =>
        some r_19
      else
        if (kind x1.toNatClampNeg) = 3 then
          b1 (f_X4_out (strength x1.toNatClampNeg) hour) fun r_21 =>
          some r_21
        else
          if (kind x1.toNatClampNeg) = 4 then
            b1 (f_X5_out (strength x1.toNatClampNeg) x2_10) fun r_23 =>
            some r_23
          else
            none
def f_X6_pulledBelow (x1 : Int32) (n : Int32) (under : Nat → Int32) : Option (Int64) :=
  b1 (f_X6_belowRight x1 n under) fun r_1 =>
  if x1 = 0 then
    some (r_1.toInt64 * (1 : Int32).toInt64)
  else
    if (x1 - 1) < 0 ∨ 8 ≤ (x1 - 1).toNatClampNeg then none else
    some (r_1.toInt64 * (under (x1 - 1).toNatClampNeg).toInt64)
def f_X6_lets (x1 : Int32) (holders : Int32) : Option (Int32) :=
  some (holders &&& ((1 <<< (x1 &&& 31)) ^^^ (-1)))
def t_X0_settles_L17 (t1_n : Int32) (t1_bears : Int32) (t1_over : Nat → Int32) (t1_under : Nat → Int32) (k : Int32 → Option (Nat × Int32)) (x2 : Int32) : Option (Nat × Int32) :=
  if (t1_n - 1) ≤ x2 then
    some (1, x2)
  else
    if x2 < 0 ∨ 8 ≤ x2.toNatClampNeg then none else
    if (t1_bears * (t1_under x2.toNatClampNeg)) < (t1_over x2.toNatClampNeg) then
      some (0, x2)
    else
      k (x2 + 1)
def f_X0_settles_L17 (t1_n : Int32) (t1_bears : Int32) (t1_over : Nat → Int32) (t1_under : Nat → Int32) : Nat → Int32 → Option (Nat × Int32) := lpf1 (t_X0_settles_L17 t1_n t1_bears t1_over t1_under)
def t_X0_settles_L67 (t1_n : Int32) (t1_holders : Int32) (t1_hour : Int32) (t1_kind : Nat → Int32) (t1_strength : Nat → Int32) (t1_over : Nat → Int32) (t1_under : Nat → Int32) (k : Int32 → Option (Nat × Int32)) (x2 : Int32) : Option (Nat × Int32) :=
  if t1_n ≤ x2 then
    some (1, x2)
  else
    b1 (f_X6_holds x2 t1_holders) fun r_11 =>
    if r_11 = 0 then
      k (x2 + 1)
    else
      b1 (f_X6_pulledBy x2 t1_n t1_holders t1_over t1_under) fun r_13 =>
      b1 (f_J2_abs r_13) fun r_14 =>
      b1 (f_X6_holdsOut x2 t1_n t1_holders t1_hour t1_kind t1_strength) fun r_15 =>
      b1 (f_X6_pulledBelow x2 t1_n t1_under) fun r_16 =>
      if 0 < (lg_cmp r_14 (r_15.toInt64 * r_16)) then
        some (0, x2)
      else
        k (x2 + 1)
def f_X0_settles_L67 (t1_n : Int32) (t1_holders : Int32) (t1_hour : Int32) (t1_kind : Nat → Int32) (t1_strength : Nat → Int32) (t1_over : Nat → Int32) (t1_under : Nat → Int32) : Nat → Int32 → Option (Nat × Int32) := lpf1 (t_X0_settles_L67 t1_n t1_holders t1_hour t1_kind t1_strength t1_over t1_under)
def t_X0_settles_L10 (t1_n : Int32) (t1_hour : Int32) (t1_bears : Int32) (t1_kind : Nat → Int32) (t1_strength : Nat → Int32) (t1_place : Nat → Int32) (t1_length : Nat → Int32) (t1_gives : Nat → Int32) (k : Int32 → Int32 → (Nat → Int32) → Int32 → Int32 → (Nat → Int32) → (Nat → Int32) → Option (Int32 × Int32 × (Nat → Int32) × Int32 × Int32 × (Nat → Int32) × (Nat → Int32))) (falls : Int32) (tears : Int32) (fell : Nat → Int32) (t1_holders : Int32) (t1_cuts : Int32) (t1_over : Nat → Int32) (t1_under : Nat → Int32) : Option (Int32 × Int32 × (Nat → Int32) × Int32 × Int32 × (Nat → Int32) × (Nat → Int32)) :=
  b2 (f_X6_measured t1_n t1_holders t1_cuts t1_place t1_length t1_gives t1_over t1_under) fun t1_over_1 t1_under_2 =>
  b2 (f_X0_settles_L17 t1_n t1_bears t1_over_1 t1_under_2 FU 0) fun tag_6 x2_7 =>
  if tag_6 = 0 then
    b2 (f_X0_tears x2_7 tears t1_n t1_holders t1_cuts t1_gives) fun tears_8 t1_cuts_9 =>
    k falls tears_8 fell t1_holders t1_cuts_9 t1_over_1 t1_under_2
  else
    b2 (f_X0_settles_L67 t1_n t1_holders t1_hour t1_kind t1_strength t1_over_1 t1_under_2 FU 0) fun tag_18 x2_19 =>
    if tag_18 = 0 then
      b1 (f_X6_lets x2_19 t1_holders) fun t1_holders_20 =>
      if falls < 0 ∨ 8 ≤ falls.toNatClampNeg then none else
      k (falls + 1) tears (upd fell falls.toNatClampNeg x2_19) t1_holders_20 t1_cuts t1_over_1 t1_under_2
    else
      some (falls, tears, fell, t1_holders, t1_cuts, t1_over_1, t1_under_2)
def f_X0_settles_L10 (t1_n : Int32) (t1_hour : Int32) (t1_bears : Int32) (t1_kind : Nat → Int32) (t1_strength : Nat → Int32) (t1_place : Nat → Int32) (t1_length : Nat → Int32) (t1_gives : Nat → Int32) : Nat → Int32 → Int32 → (Nat → Int32) → Int32 → Int32 → (Nat → Int32) → (Nat → Int32) → Option (Int32 × Int32 × (Nat → Int32) × Int32 × Int32 × (Nat → Int32) × (Nat → Int32)) := lpf7 (t_X0_settles_L10 t1_n t1_hour t1_bears t1_kind t1_strength t1_place t1_length t1_gives)
def f_X0_settles (fell : Nat → Int32) (t1_n : Int32) (t1_holders : Int32) (t1_cuts : Int32) (t1_hour : Int32) (t1_bears : Int32) (t1_kind : Nat → Int32) (t1_strength : Nat → Int32) (t1_place : Nat → Int32) (t1_length : Nat → Int32) (t1_gives : Nat → Int32) (t1_over : Nat → Int32) (t1_under : Nat → Int32) : Option (Int32 × Int32 × Int32 × (Nat → Int32) × Int32 × Int32 × (Nat → Int32) × (Nat → Int32)) :=
  b7 (f_X0_settles_L10 t1_n t1_hour t1_bears t1_kind t1_strength t1_place t1_length t1_gives FU 0 0 fell t1_holders t1_cuts t1_over t1_under) fun falls_22 tears_23 fell_24 t1_holders_25 t1_cuts_26 t1_over_27 t1_under_28 =>
  some (falls_22, falls_22, tears_23, fell_24, t1_holders_25, t1_cuts_26, t1_over_27, t1_under_28)
def f_X0_isPerson (x1 : Int32) (town_n : Int32) : Option (Int32) :=
  b1 (f_X0_in x1.toInt64 0 ((town_n - 1).toInt64)) fun r_1 =>
  if r_1 = 0 ∨ r_1 = 1 then some r_1 else none
def f_X0_of (x1 : Int32) (x2 : Int32) (town_n : Int32) (town_holders : Int32) (town_cuts : Int32) (town_hour : Int32) (town_kind : Nat → Int32) (town_strength : Nat → Int32) (town_place : Nat → Int32) (town_length : Nat → Int32) (town_gives : Nat → Int32) (town_over : Nat → Int32) (town_under : Nat → Int32) : Option (Int32 × (Nat → Int32) × (Nat → Int32)) :=
  b1 (f_X0_isPerson x1 town_n) fun r_1 =>
  if r_1 = 0 then
    some ((-1), town_over, town_under)
  else
    if x2 = 0 then
      if x1 < 0 ∨ 8 ≤ x1.toNatClampNeg then none else
      some ((town_kind x1.toNatClampNeg), town_over, town_under)
    else
      if x2 = 1 then
        if x1 < 0 ∨ 8 ≤ x1.toNatClampNeg then none else
        some ((town_strength x1.toNatClampNeg), town_over, town_under)
      else
        if x2 = 2 then
          b1 (f_X6_holds x1 town_holders) fun r_8 =>
          if r_8 = 0 then
            some (0, town_over, town_under)
          else
            some (1, town_over, town_under)
        else
          if x2 = 3 then
            b1 (f_X6_holdsOut x1 town_n town_holders town_hour town_kind town_strength) fun r_11 =>
            some (r_11, town_over, town_under)
          else
            if x2 = 4 then
              b2 (f_X6_measured town_n town_holders town_cuts town_place town_length town_gives town_over town_under) fun town_over_13 town_under_14 =>
              b1 (f_X6_pulledBy x1 town_n town_holders town_over_13 town_under_14) fun r_15 =>
              if (lg_cmp r_15 0) ≤ 0 then
                if 0 ≤ (lg_cmp r_15 0) then
                  some (0, town_over_13, town_under_14)
                else
                  some (2, town_over_13, town_under_14)
              else
                some (1, town_over_13, town_under_14)
            else
              some ((-1), town_over, town_under)
def t_X9_common_L6  (k : Int64 → Int64 → Option (Int64)) (x4 : Int64) (x6 : Int64) : Option (Int64) :=
  if (lg_cmp x6 0) = 0 then
    some x4
  else
    if x6 = 0 then none else
    k x6 (x4 - x4 / x6 * x6)
def f_X9_common_L6  : Nat → Int64 → Int64 → Option (Int64) := lpf2 (t_X9_common_L6)
def f_X9_common (x0 : Int64) (x2 : Int64) : Option (Int64) :=
  b1 (f_X9_common_L6 FU x0 x2) fun x4_3 =>
  some x4_3
def f_X9_init (x1 : Int64) (x3 : Int64) : Option (Int64 × Int64) :=
  b1 (f_J2_abs x1) fun r_1 =>
  b1 (f_X9_common r_1 x3) fun r_2 =>
  if r_2 = 0 then none else
  some ((x1 / r_2), (x3 / r_2))
def f_X0_whole (x0 : Int64) : Option (Int64 × Int64) :=
  b2 (f_X9_init x0 1) fun q1_f0_2 q1_f1_3 =>
  some (q1_f0_2, q1_f1_3)
def t_X6_next_L2 (x2 : Int32) (n : Int32) (holders : Int32) (cuts : Int32) (k : Int32 → Option (Nat × Int32)) (x3 : Int32) : Option (Nat × Int32) :=
  b1 (
    if 0 ≤ x2 then
      some x3
    else
      some (x3 - 1)
   : Option (Int32)) fun z_2 =>
  if (x3 + x2) < 0 then
    some (0, (x3 + x2))
  else
    if n ≤ (x3 + x2) then
      some (0, (x3 + x2))
    else
      b1 (f_X6_isCut z_2 cuts) fun r_5 =>
      if r_5 = 0 then
        b1 (f_X6_holds (x3 + x2) holders) fun r_7 =>
        if r_7 = 0 then
          k (x3 + x2)
        else
          some (1, (x3 + x2))
      else
        some (0, (x3 + x2))
def f_X6_next_L2 (x2 : Int32) (n : Int32) (holders : Int32) (cuts : Int32) : Nat → Int32 → Option (Nat × Int32) := lpf1 (t_X6_next_L2 x2 n holders cuts)
def f_X6_next (x1 : Int32) (x2 : Int32) (n : Int32) (holders : Int32) (cuts : Int32) : Option (Int32) :=
  b2 (f_X6_next_L2 x2 n holders cuts FU x1) fun tag_9 x3_10 =>
  if tag_9 = 0 then
    some (-4)
  else
    some x3_10
def f_X9_plus (above : Int64) (below : Int64) (t1_above : Int64) (t1_below : Int64) : Option (Int64 × Int64) :=
  b2 (f_X9_init ((above * t1_below) + (t1_above * below)) (below * t1_below)) fun q1_f0_2 q1_f1_3 =>
  some (q1_f0_2, q1_f1_3)
def t_X6_placeOf_L96 (x1 : Int32) (length : Nat → Int32) (gives : Nat → Int32) (over : Nat → Int32) (k : Int64 → Int64 → Int32 → Option (Int64 × Int64)) (x4 : Int64) (x6 : Int64) (x8 : Int32) : Option (Int64 × Int64) :=
  if x1 ≤ x8 then
    some (x4, x6)
  else
    if x8 < 0 ∨ 8 ≤ x8.toNatClampNeg then none else
    nm (x4 + (length x8.toNatClampNeg).toInt64) fun y_25 =>
    nm (x6 + ((over x8.toNatClampNeg).toInt64 * (gives x8.toNatClampNeg).toInt64)) fun y_26 =>
    k y_25 y_26 (x8 + 1)
def f_X6_placeOf_L96 (x1 : Int32) (length : Nat → Int32) (gives : Nat → Int32) (over : Nat → Int32) : Nat → Int64 → Int64 → Int32 → Option (Int64 × Int64) := lpf3 (t_X6_placeOf_L96 x1 length gives over)
def f_X6_placeOf (x1 : Int32) (n : Int32) (holders : Int32) (cuts : Int32) (place : Nat → Int32) (length : Nat → Int32) (gives : Nat → Int32) (over : Nat → Int32) (under : Nat → Int32) : Option (Int64 × Int64) :=
  b1 (f_X6_holds x1 holders) fun r_1 =>
  if r_1 = 0 then
    b1 (f_X6_next x1 (-1) n holders cuts) fun r_3 =>
    b1 (f_X6_next x1 1 n holders cuts) fun r_4 =>
    if r_3 = (-4) then
      if r_4 = (-4) then
        b2 (f_X0_whole 0) fun r_7 r_8 =>
        some (r_7, r_8)
      else
        if r_4 < 0 ∨ 8 ≤ r_4.toNatClampNeg then none else
        b2 (f_X0_whole ((place r_4.toNatClampNeg).toInt64)) fun r_11 r_12 =>
        some (r_11, r_12)
    else
      if r_3 < 0 ∨ 8 ≤ r_3.toNatClampNeg then none else
      if r_4 = (-4) then
        b2 (f_X0_whole ((place r_3.toNatClampNeg).toInt64)) fun r_16 r_17 =>
        some (r_16, r_17)
      else
        if (over r_3.toNatClampNeg) = 0 then
          b2 (f_X0_whole ((place r_3.toNatClampNeg).toInt64)) fun r_20 r_21 =>
          some (r_20, r_21)
        else
          b2 (f_X6_placeOf_L96 x1 length gives over FU ((place r_3.toNatClampNeg).toInt64) 0 r_3) fun x4_27 x6_28 =>
          b2 (f_X9_init x6_28 ((under r_3.toNatClampNeg).toInt64)) fun q29_f0_30 q29_f1_31 =>
          b2 (f_X0_whole x4_27) fun r_32 r_33 =>
          b2 (f_X9_plus q29_f0_30 q29_f1_31 r_32 r_33) fun r_35 r_36 =>
          some (r_35, r_36)
  else
    if x1 < 0 ∨ 8 ≤ x1.toNatClampNeg then none else
    b2 (f_X0_whole ((place x1.toNatClampNeg).toInt64)) fun r_39 r_40 =>
    some (r_39, r_40)
def f_X9_told (x1 : Int32) (above : Int64) (below : Int64) : Option (Int32) :=
  if x1 = 0 then
    some above.toInt32
  else
    some below.toInt32
def f_X0_place (x1 : Int32) (x2 : Int32) (town_n : Int32) (town_holders : Int32) (town_cuts : Int32) (town_place : Nat → Int32) (town_length : Nat → Int32) (town_gives : Nat → Int32) (town_over : Nat → Int32) (town_under : Nat → Int32) : Option (Int32 × (Nat → Int32) × (Nat → Int32)) :=
  b1 (f_X0_isPerson x1 town_n) fun r_1 =>
  if r_1 = 0 then
    some ((-1), town_over, town_under)
  else
    b1 (f_X0_in x2.toInt64 0 1) fun r_3 =>
    if r_3 = 0 then
      some ((-1), town_over, town_under)
    else
      b2 (f_X6_measured town_n town_holders town_cuts town_place town_length town_gives town_over town_under) fun town_over_5 town_under_6 =>
      b2 (f_X6_placeOf x1 town_n town_holders town_cuts town_place town_length town_gives town_over_5 town_under_6) fun r_7 r_8 =>
      b1 (f_X9_told x2 r_7 r_8) fun r_10 =>
      some (r_10, town_over_5, town_under_6)
def f_X0_pulled (x1 : Int32) (x2 : Int32) (town_n : Int32) (town_holders : Int32) (town_cuts : Int32) (town_place : Nat → Int32) (town_length : Nat → Int32) (town_gives : Nat → Int32) (town_over : Nat → Int32) (town_under : Nat → Int32) : Option (Int32 × (Nat → Int32) × (Nat → Int32)) :=
  b1 (f_X0_isPerson x1 town_n) fun r_1 =>
  if r_1 = 0 then
    some ((-1), town_over, town_under)
  else
    b1 (f_X0_in x2.toInt64 0 1) fun r_3 =>
    if r_3 = 0 then
      some ((-1), town_over, town_under)
    else
      b2 (f_X6_measured town_n town_holders town_cuts town_place town_length town_gives town_over town_under) fun town_over_6 town_under_7 =>
      b1 (f_X6_pulledBy x1 town_n town_holders town_over_6 town_under_7) fun r_8 =>
      b1 (f_J2_abs r_8) fun r_9 =>
      b1 (f_X6_pulledBelow x1 town_n town_under_7) fun r_10 =>
      b2 (f_X9_init r_9 r_10) fun q5_f0_11 q5_f1_12 =>
      b1 (f_X9_told x2 q5_f0_11 q5_f1_12) fun r_13 =>
      some (r_13, town_over_6, town_under_7)
def f_X0_isSeam (x1 : Int32) (town_n : Int32) : Option (Int32) :=
  b1 (f_X0_in x1.toInt64 0 ((town_n - 2).toInt64)) fun r_1 =>
  if r_1 = 0 ∨ r_1 = 1 then some r_1 else none
def f_X0_pull (x1 : Int32) (x2 : Int32) (town_n : Int32) (town_holders : Int32) (town_cuts : Int32) (town_place : Nat → Int32) (town_length : Nat → Int32) (town_gives : Nat → Int32) (town_over : Nat → Int32) (town_under : Nat → Int32) : Option (Int32 × (Nat → Int32) × (Nat → Int32)) :=
  b1 (f_X0_isSeam x1 town_n) fun r_1 =>
  if r_1 = 0 then
    some ((-1), town_over, town_under)
  else
    b1 (f_X0_in x2.toInt64 0 1) fun r_3 =>
    if r_3 = 0 then
      some ((-1), town_over, town_under)
    else
      b2 (f_X6_measured town_n town_holders town_cuts town_place town_length town_gives town_over town_under) fun town_over_6 town_under_7 =>
      if x1 < 0 ∨ 8 ≤ x1.toNatClampNeg then none else
      b2 (f_X9_init ((town_over_6 x1.toNatClampNeg).toInt64) ((town_under_7 x1.toNatClampNeg).toInt64)) fun q5_f0_9 q5_f1_10 =>
      b1 (f_X9_told x2 q5_f0_9 q5_f1_10) fun r_11 =>
      some (r_11, town_over_6, town_under_7)
def f_X0_seam (x1 : Int32) (x2 : Int32) (town_n : Int32) (town_cuts : Int32) (town_length : Nat → Int32) (town_gives : Nat → Int32) : Option (Int32) :=
  b1 (f_X0_isSeam x1 town_n) fun r_1 =>
  if r_1 = 0 then
    some (-1)
  else
    if x2 = 0 then
      if x1 < 0 ∨ 8 ≤ x1.toNatClampNeg then none else
      some (town_length x1.toNatClampNeg)
    else
      if x2 = 1 then
        if x1 < 0 ∨ 8 ≤ x1.toNatClampNeg then none else
        some (town_gives x1.toNatClampNeg)
      else
        if x2 = 2 then
          b1 (f_X6_isCut x1 town_cuts) fun r_8 =>
          if r_8 = 0 then
            some 0
          else
            some 1
        else
          some (-1)
def t_X0_taut_L12 (town_n : Int32) (town_over : Nat → Int32) (k : Int32 → Int32 → Option (Int32)) (x1 : Int32) (x2 : Int32) : Option (Int32) :=
  if (town_n - 1) ≤ x2 then
    some x1
  else
    if x2 < 0 ∨ 8 ≤ x2.toNatClampNeg then none else
    if (town_over x2.toNatClampNeg) ≤ 0 then
      k x1 (x2 + 1)
    else
      k (x1 ||| (1 <<< (x2 &&& 31))) (x2 + 1)
def f_X0_taut_L12 (town_n : Int32) (town_over : Nat → Int32) : Nat → Int32 → Int32 → Option (Int32) := lpf2 (t_X0_taut_L12 town_n town_over)
def f_X0_taut (town_n : Int32) (town_holders : Int32) (town_cuts : Int32) (town_place : Nat → Int32) (town_length : Nat → Int32) (town_gives : Nat → Int32) (town_over : Nat → Int32) (town_under : Nat → Int32) : Option (Int32 × (Nat → Int32) × (Nat → Int32)) :=
  b2 (f_X6_measured town_n town_holders town_cuts town_place town_length town_gives town_over town_under) fun town_over_1 town_under_2 =>
  b1 (f_X0_taut_L12 town_n town_over_1 FU 0 0) fun x1_6 =>
  some (x1_6, town_over_1, town_under_2)
def t_X6_greatest_L6 (n : Int32) (over : Nat → Int32) (under : Nat → Int32) (k : Int32 → Int32 → Int32 → Option (Int32 × Int32)) (x1 : Int32) (x2 : Int32) (x3 : Int32) : Option (Int32 × Int32) :=
  if (n - 1) ≤ x3 then
    some (x1, x2)
  else
    if x3 < 0 ∨ 8 ≤ x3.toNatClampNeg then none else
    if (x1 * (under x3.toNatClampNeg)) < ((over x3.toNatClampNeg) * x2) then
      k (over x3.toNatClampNeg) (under x3.toNatClampNeg) (x3 + 1)
    else
      k x1 x2 (x3 + 1)
def f_X6_greatest_L6 (n : Int32) (over : Nat → Int32) (under : Nat → Int32) : Nat → Int32 → Int32 → Int32 → Option (Int32 × Int32) := lpf3 (t_X6_greatest_L6 n over under)
def f_X6_greatest (n : Int32) (over : Nat → Int32) (under : Nat → Int32) : Option (Int32) :=
  b2 (f_X6_greatest_L6 n over under FU 0 1 0) fun x1_4 x2_5 =>
  some ((x1_4 * 64) + x2_5)
def f_X0_cutDown (x0 : Int32) : Option (Int32) :=
  if (x0 - x0 / 64 * 64) = 0 then none else
  some ((x0 / 64) / (x0 - x0 / 64 * 64))
def f_X0_type (x1 : Int32) (typed : Int32) (tape : Nat → Int32) : Option (Int32 × Int32 × (Nat → Int32)) :=
  b1 (f_X0_in x1.toInt64 32 126) fun r_1 =>
  if r_1 = 0 then
    some ((-1), typed, tape)
  else
    if typed = 90 then
      some ((-3), typed, tape)
    else
      if typed < 0 ∨ 90 ≤ typed.toNatClampNeg then none else
      some ((typed + 1), (typed + 1), upd tape typed.toNatClampNeg (vp_nar .byte x1.toInt8.toInt32))
def t_X0_here_L0 (typed : Int32) (tape : Nat → Int32) (k : Int32 → Option (Int32)) (place : Int32) : Option (Int32) :=
  if typed ≤ place then
    some place
  else
    if place < 0 ∨ 90 ≤ place.toNatClampNeg then none else
    if (tape place.toNatClampNeg) = 32 then
      k (place + 1)
    else
      some place
def f_X0_here_L0 (typed : Int32) (tape : Nat → Int32) : Nat → Int32 → Option (Int32) := lpf1 (t_X0_here_L0 typed tape)
def f_X0_here (typed : Int32) (place : Int32) (tape : Nat → Int32) : Option (Int32 × Int32) :=
  b1 (f_X0_here_L0 typed tape FU place) fun place_4 =>
  if typed ≤ place_4 then
    some (0, place_4)
  else
    if place_4 < 0 ∨ 90 ≤ place_4.toNatClampNeg then none else
    some ((tape place_4.toNatClampNeg), place_4)
def f_X6_init  : Option (Unit) :=
  some ()
def f_X6_takes (kind : Nat → Int32) (strength : Nat → Int32) (place : Nat → Int32) (length : Nat → Int32) (gives : Nat → Int32) (t1_n : Int32) (t1_holders : Int32) (t1_cuts : Int32) (t1_hour : Int32) (t1_bears : Int32) (t1_draw : Int32) (t1_kind : Nat → Int32) (t1_strength : Nat → Int32) (t1_place : Nat → Int32) (t1_length : Nat → Int32) (t1_gives : Nat → Int32) : Option (Int32 × Int32 × Int32 × Int32 × Int32 × Int32 × (Nat → Int32) × (Nat → Int32) × (Nat → Int32) × (Nat → Int32) × (Nat → Int32)) :=
  if fitB t1_kind = false then none else
  if fitB t1_strength = false then none else
  if fitB t1_place = false then none else
  if fitB t1_length = false then none else
  if fitB t1_gives = false then none else
  some (t1_n, t1_holders, t1_cuts, t1_hour, t1_bears, t1_draw, va_cpy t1_kind kind 0 0 8, va_cpy t1_strength strength 0 0 8, va_cpy t1_place place 0 0 8, va_cpy t1_length length 0 0 8, va_cpy t1_gives gives 0 0 8)
def f_X9_cutDown (above : Int64) (below : Int64) : Option (Int64) :=
  b1 (f_J2_floorDiv above below) fun r_1 =>
  some r_1
def f_X0_takesHoldWhereHeIs (x1 : Int32) (t0_n : Int32) (t0_holders : Int32) (t0_cuts : Int32) (t0_place : Nat → Int32) (t0_length : Nat → Int32) (t0_gives : Nat → Int32) (t0_over : Nat → Int32) (t0_under : Nat → Int32) : Option (Int32 × (Nat → Int32) × (Nat → Int32) × (Nat → Int32)) :=
  b2 (f_X6_measured t0_n t0_holders t0_cuts t0_place t0_length t0_gives t0_over t0_under) fun t0_over_1 t0_under_2 =>
  b2 (f_X6_placeOf x1 t0_n t0_holders t0_cuts t0_place t0_length t0_gives t0_over_1 t0_under_2) fun r_3 r_4 =>
  b1 (f_X9_cutDown r_3 r_4) fun r_6 =>
  b1 (f_J2_min_2 99 r_6) fun r_7 =>
  b1 (f_J2_max_2 0 r_7) fun r_8 =>
  b2 (f_X6_takesHold x1 r_8 t0_holders t0_place) fun t0_holders_9 t0_place_10 =>
  some (t0_holders_9, t0_place_10, t0_over_1, t0_under_2)
def f_X0_passes (t0_hour : Int32) : Option (Int32) :=
  some ((t0_hour + 1) - (t0_hour + 1) / 24 * 24)
def f_X0_springs_2 (falls : Int32) (tears : Int32) (town_n : Int32) (town_holders : Int32) (town_cuts : Int32) (town_hour : Int32) (town_bears : Int32) (town_draw : Int32) (town_kind : Nat → Int32) (town_strength : Nat → Int32) (town_place : Nat → Int32) (town_length : Nat → Int32) (town_gives : Nat → Int32) (town_over : Nat → Int32) (town_under : Nat → Int32) (fell : Nat → Int32) : Option (Int32 × Int32 × Int32 × Int32 × Int32 × (Nat → Int32) × (Nat → Int32) × (Nat → Int32) × (Nat → Int32)) :=
  if town_n = 0 then
    some (falls, tears, town_holders, town_cuts, (((town_draw * 1103515245) + 12345) &&& 2147483647), town_place, town_over, town_under, fell)
  else
    nm (((((town_draw * 1103515245) + 12345) &&& 2147483647) / 65536) - ((((town_draw * 1103515245) + 12345) &&& 2147483647) / 65536) / town_n * town_n) fun y_2 =>
    if y_2 < 0 ∨ 8 ≤ y_2.toNatClampNeg then none else
    b1 (
      if (((((town_draw * 1103515245) + 12345) &&& 2147483647) >>> (9 &&& 31)) &&& 1) = 1 then
        some 1
      else
        some (-1)
     : Option (Int32)) fun z_5 =>
    nm ((town_place y_2.toNatClampNeg) + z_5) fun y_6 =>
    b1 (f_X6_holds y_2 town_holders) fun r_7 =>
    if r_7 = 0 then
      b4 (f_X0_takesHoldWhereHeIs y_2 town_n town_holders town_cuts town_place town_length town_gives town_over town_under) fun town_holders_9 town_place_10 town_over_11 town_under_12 =>
      b8 (f_X0_settles fell town_n town_holders_9 town_cuts town_hour town_bears town_kind town_strength town_place_10 town_length town_gives town_over_11 town_under_12) fun r_13 falls_14 tears_15 fell_16 town_holders_17 town_cuts_18 town_over_19 town_under_20 =>
      some (falls_14, tears_15, town_holders_17, town_cuts_18, (((town_draw * 1103515245) + 12345) &&& 2147483647), town_place_10, town_over_19, town_under_20, fell_16)
    else
      b1 (f_X0_in y_6.toInt64 0 99) fun r_21 =>
      if r_21 = 0 then
        b8 (f_X0_settles fell town_n town_holders town_cuts town_hour town_bears town_kind town_strength town_place town_length town_gives town_over town_under) fun r_23 falls_24 tears_25 fell_26 town_holders_27 town_cuts_28 town_over_29 town_under_30 =>
        some (falls_24, tears_25, town_holders_27, town_cuts_28, (((town_draw * 1103515245) + 12345) &&& 2147483647), town_place, town_over_29, town_under_30, fell_26)
      else
        b8 (f_X0_settles fell town_n town_holders town_cuts town_hour town_bears town_kind town_strength (upd town_place y_2.toNatClampNeg (vp_nar .byte y_6.toInt8.toInt32)) town_length town_gives town_over town_under) fun r_31 falls_32 tears_33 fell_34 town_holders_35 town_cuts_36 town_over_37 town_under_38 =>
        some (falls_32, tears_33, town_holders_35, town_cuts_36, (((town_draw * 1103515245) + 12345) &&& 2147483647), upd town_place y_2.toNatClampNeg (vp_nar .byte y_6.toInt8.toInt32), town_over_37, town_under_38, fell_34)
def f_X0_seed (x1 : Int32) (town_draw : Int32) : Option (Int32 × Int32) :=
  if 0 ≤ x1 then
    some (town_draw, x1)
  else
    some ((-1), town_draw)
def f_X0_tries (town_n : Int32) (town_holders : Int32) (town_cuts : Int32) (town_hour : Int32) (town_bears : Int32) (town_draw : Int32) (town_kind : Nat → Int32) (town_strength : Nat → Int32) (town_place : Nat → Int32) (town_length : Nat → Int32) (town_gives : Nat → Int32) (tried_kind : Nat → Int32) (tried_strength : Nat → Int32) (tried_place : Nat → Int32) (tried_length : Nat → Int32) (tried_gives : Nat → Int32) : Option (Int32 × Int32 × Int32 × Int32 × Int32 × Int32 × (Nat → Int32) × (Nat → Int32) × (Nat → Int32) × (Nat → Int32) × (Nat → Int32)) :=
  b11 (f_X6_takes tried_kind tried_strength tried_place tried_length tried_gives town_n town_holders town_cuts town_hour town_bears town_draw town_kind town_strength town_place town_length town_gives) fun tried_n_1 tried_holders_2 tried_cuts_3 tried_hour_4 tried_bears_5 tried_draw_6 tried_kind_7 tried_strength_8 tried_place_9 tried_length_10 tried_gives_11 =>
  some (tried_n_1, tried_holders_2, tried_cuts_3, tried_hour_4, tried_bears_5, tried_draw_6, tried_kind_7, tried_strength_8, tried_place_9, tried_length_10, tried_gives_11)
def f_X0_isStill (fell : Nat → Int32) (t1_n : Int32) (t1_holders : Int32) (t1_cuts : Int32) (t1_hour : Int32) (t1_bears : Int32) (t1_kind : Nat → Int32) (t1_strength : Nat → Int32) (t1_place : Nat → Int32) (t1_length : Nat → Int32) (t1_gives : Nat → Int32) (t1_over : Nat → Int32) (t1_under : Nat → Int32) : Option (Int32 × Int32 × Int32 × (Nat → Int32) × Int32 × Int32 × (Nat → Int32) × (Nat → Int32)) :=
  b8 (f_X0_settles fell t1_n t1_holders t1_cuts t1_hour t1_bears t1_kind t1_strength t1_place t1_length t1_gives t1_over t1_under) fun r_1 falls_2 tears_3 fell_4 t1_holders_5 t1_cuts_6 t1_over_7 t1_under_8 =>
  if r_1 = 0 then
    if tears_3 = 0 then
      some (1, falls_2, tears_3, fell_4, t1_holders_5, t1_cuts_6, t1_over_7, t1_under_8)
    else
      some (0, falls_2, tears_3, fell_4, t1_holders_5, t1_cuts_6, t1_over_7, t1_under_8)
  else
    some (0, falls_2, tears_3, fell_4, t1_holders_5, t1_cuts_6, t1_over_7, t1_under_8)
def t_X0_far_L47 (x1 : Int32) (x3 : Int32) (town_n : Int32) (town_holders : Int32) (town_cuts : Int32) (town_hour : Int32) (town_bears : Int32) (town_draw : Int32) (town_kind : Nat → Int32) (town_strength : Nat → Int32) (town_place : Nat → Int32) (town_length : Nat → Int32) (town_gives : Nat → Int32) (k : Int32 → Int32 → Int32 → Int32 → Int32 → Int32 → Int32 → Int32 → Int32 → (Nat → Int32) → (Nat → Int32) → (Nat → Int32) → (Nat → Int32) → (Nat → Int32) → (Nat → Int32) → (Nat → Int32) → (Nat → Int32) → Option (Nat × Int32 × Int32 × Int32 × Int32 × Int32 × Int32 × Int32 × Int32 × Int32 × (Nat → Int32) × (Nat → Int32) × (Nat → Int32) × (Nat → Int32) × (Nat → Int32) × (Nat → Int32) × (Nat → Int32) × (Nat → Int32))) (x4 : Int32) (falls : Int32) (tears : Int32) (tried_n : Int32) (tried_holders : Int32) (tried_cuts : Int32) (tried_hour : Int32) (tried_bears : Int32) (tried_draw : Int32) (tried_kind : Nat → Int32) (tried_strength : Nat → Int32) (tried_place : Nat → Int32) (tried_length : Nat → Int32) (tried_gives : Nat → Int32) (tried_over : Nat → Int32) (tried_under : Nat → Int32) (fell : Nat → Int32) : Option (Nat × Int32 × Int32 × Int32 × Int32 × Int32 × Int32 × Int32 × Int32 × Int32 × (Nat → Int32) × (Nat → Int32) × (Nat → Int32) × (Nat → Int32) × (Nat → Int32) × (Nat → Int32) × (Nat → Int32) × (Nat → Int32)) :=
  if x1 < 0 ∨ 8 ≤ x1.toNatClampNeg then none else
  b1 (f_X0_in (((town_place x1.toNatClampNeg) + (x3 * (x4 + 1))).toInt64) 0 99) fun r_10 =>
  if r_10 = 0 then
    some (1, x4, falls, tears, tried_n, tried_holders, tried_cuts, tried_hour, tried_bears, tried_draw, tried_kind, tried_strength, tried_place, tried_length, tried_gives, tried_over, tried_under, fell)
  else
    b11 (f_X0_tries town_n town_holders town_cuts town_hour town_bears town_draw town_kind town_strength town_place town_length town_gives tried_kind tried_strength tried_place tried_length tried_gives) fun tried_n_12 tried_holders_13 tried_cuts_14 tried_hour_15 tried_bears_16 tried_draw_17 tried_kind_18 tried_strength_19 tried_place_20 tried_length_21 tried_gives_22 =>
    b8 (f_X0_isStill fell tried_n_12 tried_holders_13 tried_cuts_14 tried_hour_15 tried_bears_16 tried_kind_18 tried_strength_19 (upd tried_place_20 x1.toNatClampNeg (vp_nar .byte (((tried_place_20 x1.toNatClampNeg) + (x3 * (x4 + 1)).toInt8.toInt32).toInt8.toInt32))) tried_length_21 tried_gives_22 tried_over tried_under) fun r_23 falls_24 tears_25 fell_26 tried_holders_27 tried_cuts_28 tried_over_29 tried_under_30 =>
    if r_23 = 0 then
      some (0, x4, falls_24, tears_25, tried_n_12, tried_holders_27, tried_cuts_28, tried_hour_15, tried_bears_16, tried_draw_17, tried_kind_18, tried_strength_19, upd tried_place_20 x1.toNatClampNeg (vp_nar .byte (((tried_place_20 x1.toNatClampNeg) + (x3 * (x4 + 1)).toInt8.toInt32).toInt8.toInt32)), tried_length_21, tried_gives_22, tried_over_29, tried_under_30, fell_26)
    else
      k (x4 + 1) falls_24 tears_25 tried_n_12 tried_holders_27 tried_cuts_28 tried_hour_15 tried_bears_16 tried_draw_17 tried_kind_18 tried_strength_19 (upd tried_place_20 x1.toNatClampNeg (vp_nar .byte (((tried_place_20 x1.toNatClampNeg) + (x3 * (x4 + 1)).toInt8.toInt32).toInt8.toInt32))) tried_length_21 tried_gives_22 tried_over_29 tried_under_30 fell_26
def f_X0_far_L47 (x1 : Int32) (x3 : Int32) (town_n : Int32) (town_holders : Int32) (town_cuts : Int32) (town_hour : Int32) (town_bears : Int32) (town_draw : Int32) (town_kind : Nat → Int32) (town_strength : Nat → Int32) (town_place : Nat → Int32) (town_length : Nat → Int32) (town_gives : Nat → Int32) : Nat → Int32 → Int32 → Int32 → Int32 → Int32 → Int32 → Int32 → Int32 → Int32 → (Nat → Int32) → (Nat → Int32) → (Nat → Int32) → (Nat → Int32) → (Nat → Int32) → (Nat → Int32) → (Nat → Int32) → (Nat → Int32) → Option (Nat × Int32 × Int32 × Int32 × Int32 × Int32 × Int32 × Int32 × Int32 × Int32 × (Nat → Int32) × (Nat → Int32) × (Nat → Int32) × (Nat → Int32) × (Nat → Int32) × (Nat → Int32) × (Nat → Int32) × (Nat → Int32)) := lpf17 (t_X0_far_L47 x1 x3 town_n town_holders town_cuts town_hour town_bears town_draw town_kind town_strength town_place town_length town_gives)
def f_X0_far (x1 : Int32) (x2 : Int32) (falls : Int32) (tears : Int32) (town_n : Int32) (town_holders : Int32) (town_cuts : Int32) (town_hour : Int32) (town_bears : Int32) (town_draw : Int32) (town_kind : Nat → Int32) (town_strength : Nat → Int32) (town_place : Nat → Int32) (town_length : Nat → Int32) (town_gives : Nat → Int32) (tried_n : Int32) (tried_holders : Int32) (tried_cuts : Int32) (tried_hour : Int32) (tried_bears : Int32) (tried_draw : Int32) (tried_kind : Nat → Int32) (tried_strength : Nat → Int32) (tried_place : Nat → Int32) (tried_length : Nat → Int32) (tried_gives : Nat → Int32) (tried_over : Nat → Int32) (tried_under : Nat → Int32) (fell : Nat → Int32) : Option (Int32 × Int32 × Int32 × Int32 × Int32 × Int32 × Int32 × Int32 × Int32 × (Nat → Int32) × (Nat → Int32) × (Nat → Int32) × (Nat → Int32) × (Nat → Int32) × (Nat → Int32) × (Nat → Int32) × (Nat → Int32)) :=
  b1 (f_X0_isPerson x1 town_n) fun r_1 =>
  if r_1 = 0 then
    some ((-1), falls, tears, tried_n, tried_holders, tried_cuts, tried_hour, tried_bears, tried_draw, tried_kind, tried_strength, tried_place, tried_length, tried_gives, tried_over, tried_under, fell)
  else
    b1 (f_X0_in x2.toInt64 0 1) fun r_3 =>
    if r_3 = 0 then
      some ((-1), falls, tears, tried_n, tried_holders, tried_cuts, tried_hour, tried_bears, tried_draw, tried_kind, tried_strength, tried_place, tried_length, tried_gives, tried_over, tried_under, fell)
    else
      b1 (f_X6_holds x1 town_holders) fun r_5 =>
      if r_5 = 0 then
        some ((-2), falls, tears, tried_n, tried_holders, tried_cuts, tried_hour, tried_bears, tried_draw, tried_kind, tried_strength, tried_place, tried_length, tried_gives, tried_over, tried_under, fell)
      else
        b1 (
          if x2 = 0 then
            some (-1)
          else
            some 1
         : Option (Int32)) fun z_8 =>
        b18 (f_X0_far_L47 x1 z_8 town_n town_holders town_cuts town_hour town_bears town_draw town_kind town_strength town_place town_length town_gives FU 0 falls tears tried_n tried_holders tried_cuts tried_hour tried_bears tried_draw tried_kind tried_strength tried_place tried_length tried_gives tried_over tried_under fell) fun tag_32 x4_33 falls_34 tears_35 tried_n_36 tried_holders_37 tried_cuts_38 tried_hour_39 tried_bears_40 tried_draw_41 tried_kind_42 tried_strength_43 tried_place_44 tried_length_45 tried_gives_46 tried_over_47 tried_under_48 fell_49 =>
        if tag_32 = 0 then
          some (x4_33, falls_34, tears_35, tried_n_36, tried_holders_37, tried_cuts_38, tried_hour_39, tried_bears_40, tried_draw_41, tried_kind_42, tried_strength_43, tried_place_44, tried_length_45, tried_gives_46, tried_over_47, tried_under_48, fell_49)
        else
          some (x4_33, falls_34, tears_35, tried_n_36, tried_holders_37, tried_cuts_38, tried_hour_39, tried_bears_40, tried_draw_41, tried_kind_42, tried_strength_43, tried_place_44, tried_length_45, tried_gives_46, tried_over_47, tried_under_48, fell_49)
def f_X0_fall (x1 : Int32) (x2 : Int32) (falls : Int32) (tears : Int32) (town_n : Int32) (town_holders : Int32) (town_cuts : Int32) (town_hour : Int32) (town_bears : Int32) (town_draw : Int32) (town_kind : Nat → Int32) (town_strength : Nat → Int32) (town_place : Nat → Int32) (town_length : Nat → Int32) (town_gives : Nat → Int32) (tried_n : Int32) (tried_holders : Int32) (tried_cuts : Int32) (tried_hour : Int32) (tried_bears : Int32) (tried_draw : Int32) (tried_kind : Nat → Int32) (tried_strength : Nat → Int32) (tried_place : Nat → Int32) (tried_length : Nat → Int32) (tried_gives : Nat → Int32) (tried_over : Nat → Int32) (tried_under : Nat → Int32) (fell : Nat → Int32) : Option (Int32 × Int32 × Int32 × Int32 × Int32 × Int32 × Int32 × Int32 × Int32 × (Nat → Int32) × (Nat → Int32) × (Nat → Int32) × (Nat → Int32) × (Nat → Int32) × (Nat → Int32) × (Nat → Int32) × (Nat → Int32)) :=
  b1 (f_X0_isPerson x1 town_n) fun r_1 =>
  if r_1 = 0 then
    some ((-1), falls, tears, tried_n, tried_holders, tried_cuts, tried_hour, tried_bears, tried_draw, tried_kind, tried_strength, tried_place, tried_length, tried_gives, tried_over, tried_under, fell)
  else
    if (-1) ≤ x2 then
      b1 (f_X6_holds x1 town_holders) fun r_4 =>
      if r_4 = 0 then
        some ((-2), falls, tears, tried_n, tried_holders, tried_cuts, tried_hour, tried_bears, tried_draw, tried_kind, tried_strength, tried_place, tried_length, tried_gives, tried_over, tried_under, fell)
      else
        b11 (f_X0_tries town_n town_holders town_cuts town_hour town_bears town_draw town_kind town_strength town_place town_length town_gives tried_kind tried_strength tried_place tried_length tried_gives) fun tried_n_6 tried_holders_7 tried_cuts_8 tried_hour_9 tried_bears_10 tried_draw_11 tried_kind_12 tried_strength_13 tried_place_14 tried_length_15 tried_gives_16 =>
        b1 (f_X6_lets x1 tried_holders_7) fun tried_holders_17 =>
        b8 (f_X0_settles fell tried_n_6 tried_holders_17 tried_cuts_8 tried_hour_9 tried_bears_10 tried_kind_12 tried_strength_13 tried_place_14 tried_length_15 tried_gives_16 tried_over tried_under) fun r_18 falls_19 tears_20 fell_21 tried_holders_22 tried_cuts_23 tried_over_24 tried_under_25 =>
        if 0 ≤ x2 then
          if falls_19 ≤ x2 then
            some ((-4), falls_19, tears_20, tried_n_6, tried_holders_22, tried_cuts_23, tried_hour_9, tried_bears_10, tried_draw_11, tried_kind_12, tried_strength_13, tried_place_14, tried_length_15, tried_gives_16, tried_over_24, tried_under_25, fell_21)
          else
            if x2 < 0 ∨ 8 ≤ x2.toNatClampNeg then none else
            some ((fell_21 x2.toNatClampNeg), falls_19, tears_20, tried_n_6, tried_holders_22, tried_cuts_23, tried_hour_9, tried_bears_10, tried_draw_11, tried_kind_12, tried_strength_13, tried_place_14, tried_length_15, tried_gives_16, tried_over_24, tried_under_25, fell_21)
        else
          some (falls_19, falls_19, tears_20, tried_n_6, tried_holders_22, tried_cuts_23, tried_hour_9, tried_bears_10, tried_draw_11, tried_kind_12, tried_strength_13, tried_place_14, tried_length_15, tried_gives_16, tried_over_24, tried_under_25, fell_21)
    else
      some ((-1), falls, tears, tried_n, tried_holders, tried_cuts, tried_hour, tried_bears, tried_draw, tried_kind, tried_strength, tried_place, tried_length, tried_gives, tried_over, tried_under, fell)
def f_X0_isMore (x0 : Int32) (x1 : Int32) : Option (Int32) :=
  if ((x0 / 64) * (x1 - x1 / 64 * 64)) ≤ ((x1 / 64) * (x0 - x0 / 64 * 64)) then
    some 0
  else
    some 1
def f_X0_part (x0 : Int32) : Option (Int64 × Int64) :=
  b2 (f_X9_init ((x0 / 64).toInt64) ((x0 - x0 / 64 * 64).toInt64)) fun q1_f0_2 q1_f1_3 =>
  some (q1_f0_2, q1_f1_3)
def t_X0_tie_L37 (x1 : Int32) (tried_n : Int32) (tried_cuts : Int32) (tried_length : Nat → Int32) (tried_gives : Nat → Int32) (k : Int32 → Int32 → Int32 → Int32 → (Nat → Int32) → (Nat → Int32) → (Nat → Int32) → Option (Int32 × Int32 × Int32 × (Nat → Int32) × (Nat → Int32) × (Nat → Int32))) (x3 : Int32) (x4 : Int32) (x6 : Int32) (tried_holders : Int32) (tried_place : Nat → Int32) (tried_over : Nat → Int32) (tried_under : Nat → Int32) : Option (Int32 × Int32 × Int32 × (Nat → Int32) × (Nat → Int32) × (Nat → Int32)) :=
  if 99 < x6 then
    some (x3, x4, tried_holders, tried_place, tried_over, tried_under)
  else
    b2 (f_X6_takesHold x1 x6.toInt64 tried_holders tried_place) fun tried_holders_17 tried_place_18 =>
    b2 (f_X6_measured tried_n tried_holders_17 tried_cuts tried_place_18 tried_length tried_gives tried_over tried_under) fun tried_over_19 tried_under_20 =>
    b1 (f_X6_greatest tried_n tried_over_19 tried_under_20) fun r_21 =>
    if x3 = (-4) then
      k r_21 x6 (x6 + 1) tried_holders_17 tried_place_18 tried_over_19 tried_under_20
    else
      b1 (f_X0_isMore x3 r_21) fun r_23 =>
      if r_23 = 0 then
        k x3 x4 (x6 + 1) tried_holders_17 tried_place_18 tried_over_19 tried_under_20
      else
        k r_21 x6 (x6 + 1) tried_holders_17 tried_place_18 tried_over_19 tried_under_20
def f_X0_tie_L37 (x1 : Int32) (tried_n : Int32) (tried_cuts : Int32) (tried_length : Nat → Int32) (tried_gives : Nat → Int32) : Nat → Int32 → Int32 → Int32 → Int32 → (Nat → Int32) → (Nat → Int32) → (Nat → Int32) → Option (Int32 × Int32 × Int32 × (Nat → Int32) × (Nat → Int32) × (Nat → Int32)) := lpf7 (t_X0_tie_L37 x1 tried_n tried_cuts tried_length tried_gives)
def f_X0_tie (x1 : Int32) (x2 : Int32) (town_n : Int32) (town_holders : Int32) (town_cuts : Int32) (town_hour : Int32) (town_bears : Int32) (town_draw : Int32) (town_kind : Nat → Int32) (town_strength : Nat → Int32) (town_place : Nat → Int32) (town_length : Nat → Int32) (town_gives : Nat → Int32) (tried_n : Int32) (tried_holders : Int32) (tried_cuts : Int32) (tried_hour : Int32) (tried_bears : Int32) (tried_draw : Int32) (tried_kind : Nat → Int32) (tried_strength : Nat → Int32) (tried_place : Nat → Int32) (tried_length : Nat → Int32) (tried_gives : Nat → Int32) (tried_over : Nat → Int32) (tried_under : Nat → Int32) : Option (Int32 × Int32 × Int32 × Int32 × Int32 × Int32 × Int32 × (Nat → Int32) × (Nat → Int32) × (Nat → Int32) × (Nat → Int32) × (Nat → Int32) × (Nat → Int32) × (Nat → Int32)) :=
  b1 (f_X0_isPerson x1 town_n) fun r_1 =>
  if r_1 = 0 then
    some ((-1), tried_n, tried_holders, tried_cuts, tried_hour, tried_bears, tried_draw, tried_kind, tried_strength, tried_place, tried_length, tried_gives, tried_over, tried_under)
  else
    b1 (f_X0_in x2.toInt64 0 2) fun r_3 =>
    if r_3 = 0 then
      some ((-1), tried_n, tried_holders, tried_cuts, tried_hour, tried_bears, tried_draw, tried_kind, tried_strength, tried_place, tried_length, tried_gives, tried_over, tried_under)
    else
      b11 (f_X0_tries town_n town_holders town_cuts town_hour town_bears town_draw town_kind town_strength town_place town_length town_gives tried_kind tried_strength tried_place tried_length tried_gives) fun tried_n_5 tried_holders_6 tried_cuts_7 tried_hour_8 tried_bears_9 tried_draw_10 tried_kind_11 tried_strength_12 tried_place_13 tried_length_14 tried_gives_15 =>
      b6 (f_X0_tie_L37 x1 tried_n_5 tried_cuts_7 tried_length_14 tried_gives_15 FU (-4) 0 0 tried_holders_6 tried_place_13 tried_over tried_under) fun x3_25 x4_26 tried_holders_27 tried_place_28 tried_over_29 tried_under_30 =>
      if x2 = 0 then
        some (x4_26, tried_n_5, tried_holders_27, tried_cuts_7, tried_hour_8, tried_bears_9, tried_draw_10, tried_kind_11, tried_strength_12, tried_place_28, tried_length_14, tried_gives_15, tried_over_29, tried_under_30)
      else
        b2 (f_X0_part x3_25) fun r_32 r_33 =>
        b1 (f_X9_told (x2 - 1) r_32 r_33) fun r_35 =>
        some (r_35, tried_n_5, tried_holders_27, tried_cuts_7, tried_hour_8, tried_bears_9, tried_draw_10, tried_kind_11, tried_strength_12, tried_place_28, tried_length_14, tried_gives_15, tried_over_29, tried_under_30)
def t_X0_when_L7 (tried_n : Int32) (tried_bears : Int32) (tried_kind : Nat → Int32) (tried_strength : Nat → Int32) (tried_place : Nat → Int32) (tried_length : Nat → Int32) (tried_gives : Nat → Int32) (k : Int32 → Int32 → Int32 → Int32 → Int32 → Int32 → (Nat → Int32) → (Nat → Int32) → (Nat → Int32) → Option (Nat × Int32 × Int32 × Int32 × Int32 × Int32 × Int32 × (Nat → Int32) × (Nat → Int32) × (Nat → Int32))) (x2 : Int32) (falls : Int32) (tears : Int32) (tried_holders : Int32) (tried_cuts : Int32) (tried_hour : Int32) (tried_over : Nat → Int32) (tried_under : Nat → Int32) (fell : Nat → Int32) : Option (Nat × Int32 × Int32 × Int32 × Int32 × Int32 × Int32 × (Nat → Int32) × (Nat → Int32) × (Nat → Int32)) :=
  if 24 < x2 then
    some (1, x2, falls, tears, tried_holders, tried_cuts, tried_hour, tried_over, tried_under, fell)
  else
    b1 (f_X0_passes tried_hour) fun tried_hour_13 =>
    b8 (f_X0_isStill fell tried_n tried_holders tried_cuts tried_hour_13 tried_bears tried_kind tried_strength tried_place tried_length tried_gives tried_over tried_under) fun r_14 falls_15 tears_16 fell_17 tried_holders_18 tried_cuts_19 tried_over_20 tried_under_21 =>
    if r_14 = 0 then
      some (0, x2, falls_15, tears_16, tried_holders_18, tried_cuts_19, tried_hour_13, tried_over_20, tried_under_21, fell_17)
    else
      k (x2 + 1) falls_15 tears_16 tried_holders_18 tried_cuts_19 tried_hour_13 tried_over_20 tried_under_21 fell_17
def f_X0_when_L7 (tried_n : Int32) (tried_bears : Int32) (tried_kind : Nat → Int32) (tried_strength : Nat → Int32) (tried_place : Nat → Int32) (tried_length : Nat → Int32) (tried_gives : Nat → Int32) : Nat → Int32 → Int32 → Int32 → Int32 → Int32 → Int32 → (Nat → Int32) → (Nat → Int32) → (Nat → Int32) → Option (Nat × Int32 × Int32 × Int32 × Int32 × Int32 × Int32 × (Nat → Int32) × (Nat → Int32) × (Nat → Int32)) := lpf9 (t_X0_when_L7 tried_n tried_bears tried_kind tried_strength tried_place tried_length tried_gives)
def f_X0_when (falls : Int32) (tears : Int32) (town_n : Int32) (town_holders : Int32) (town_cuts : Int32) (town_hour : Int32) (town_bears : Int32) (town_draw : Int32) (town_kind : Nat → Int32) (town_strength : Nat → Int32) (town_place : Nat → Int32) (town_length : Nat → Int32) (town_gives : Nat → Int32) (tried_kind : Nat → Int32) (tried_strength : Nat → Int32) (tried_place : Nat → Int32) (tried_length : Nat → Int32) (tried_gives : Nat → Int32) (tried_over : Nat → Int32) (tried_under : Nat → Int32) (fell : Nat → Int32) : Option (Int32 × Int32 × Int32 × Int32 × Int32 × Int32 × Int32 × Int32 × Int32 × (Nat → Int32) × (Nat → Int32) × (Nat → Int32) × (Nat → Int32) × (Nat → Int32) × (Nat → Int32) × (Nat → Int32) × (Nat → Int32)) :=
  b11 (f_X0_tries town_n town_holders town_cuts town_hour town_bears town_draw town_kind town_strength town_place town_length town_gives tried_kind tried_strength tried_place tried_length tried_gives) fun tried_n_1 tried_holders_2 tried_cuts_3 tried_hour_4 tried_bears_5 tried_draw_6 tried_kind_7 tried_strength_8 tried_place_9 tried_length_10 tried_gives_11 =>
  b10 (f_X0_when_L7 tried_n_1 tried_bears_5 tried_kind_7 tried_strength_8 tried_place_9 tried_length_10 tried_gives_11 FU 1 falls tears tried_holders_2 tried_cuts_3 tried_hour_4 tried_over tried_under fell) fun tag_23 x2_24 falls_25 tears_26 tried_holders_27 tried_cuts_28 tried_hour_29 tried_over_30 tried_under_31 fell_32 =>
  if tag_23 = 0 then
    some (x2_24, falls_25, tears_26, tried_n_1, tried_holders_27, tried_cuts_28, tried_hour_29, tried_bears_5, tried_draw_6, tried_kind_7, tried_strength_8, tried_place_9, tried_length_10, tried_gives_11, tried_over_30, tried_under_31, fell_32)
  else
    some ((-4), falls_25, tears_26, tried_n_1, tried_holders_27, tried_cuts_28, tried_hour_29, tried_bears_5, tried_draw_6, tried_kind_7, tried_strength_8, tried_place_9, tried_length_10, tried_gives_11, tried_over_30, tried_under_31, fell_32)
def t_X0_odds_L32 (town_n : Int32) (town_holders : Int32) (k : Int64 → Int32 → Option (Int64)) (x5 : Int64) (x7 : Int32) : Option (Int64) :=
  if town_n ≤ x7 then
    some x5
  else
    b1 (f_X6_holds x7 town_holders) fun r_6 =>
    if r_6 = 0 then
      k x5 (x7 + 1)
    else
      k (x5 * 10) (x7 + 1)
def f_X0_odds_L32 (town_n : Int32) (town_holders : Int32) : Nat → Int64 → Int32 → Option (Int64) := lpf2 (t_X0_odds_L32 town_n town_holders)
def t_X0_odds_L111 (x1 : Int32) (x7 : Int32) (town_n : Int32) (town_holders : Int32) (k : Int64 → Int32 → Option (Int64)) (x8 : Int64) (x10 : Int32) : Option (Int64) :=
  if town_n ≤ x10 then
    some x8
  else
    b1 (f_X6_holds x10 town_holders) fun r_12 =>
    if r_12 = 0 then
      k x8 (x10 + 1)
    else
      if ((x7 >>> (x10 &&& 31)) &&& 1) = 1 then
        k (x8 * x1.toInt64) (x10 + 1)
      else
        k (x8 * (10 - x1).toInt64) (x10 + 1)
def f_X0_odds_L111 (x1 : Int32) (x7 : Int32) (town_n : Int32) (town_holders : Int32) : Nat → Int64 → Int32 → Option (Int64) := lpf2 (t_X0_odds_L111 x1 x7 town_n town_holders)
def t_X0_odds_L73 (x1 : Int32) (town_n : Int32) (town_holders : Int32) (town_cuts : Int32) (town_hour : Int32) (town_bears : Int32) (town_draw : Int32) (town_kind : Nat → Int32) (town_strength : Nat → Int32) (town_place : Nat → Int32) (town_length : Nat → Int32) (town_gives : Nat → Int32) (k : Int64 → Int32 → Int32 → Int32 → Int32 → Int32 → Int32 → Int32 → Int32 → Int32 → (Nat → Int32) → (Nat → Int32) → (Nat → Int32) → (Nat → Int32) → (Nat → Int32) → (Nat → Int32) → (Nat → Int32) → (Nat → Int32) → Option (Int64 × Int32 × Int32 × Int32 × Int32 × Int32 × Int32 × Int32 × Int32 × (Nat → Int32) × (Nat → Int32) × (Nat → Int32) × (Nat → Int32) × (Nat → Int32) × (Nat → Int32) × (Nat → Int32) × (Nat → Int32))) (x3 : Int64) (x7 : Int32) (falls : Int32) (tears : Int32) (tried_n : Int32) (tried_holders : Int32) (tried_cuts : Int32) (tried_hour : Int32) (tried_bears : Int32) (tried_draw : Int32) (tried_kind : Nat → Int32) (tried_strength : Nat → Int32) (tried_place : Nat → Int32) (tried_length : Nat → Int32) (tried_gives : Nat → Int32) (tried_over : Nat → Int32) (tried_under : Nat → Int32) (fell : Nat → Int32) : Option (Int64 × Int32 × Int32 × Int32 × Int32 × Int32 × Int32 × Int32 × Int32 × (Nat → Int32) × (Nat → Int32) × (Nat → Int32) × (Nat → Int32) × (Nat → Int32) × (Nat → Int32) × (Nat → Int32) × (Nat → Int32)) :=
  if (1 <<< (town_n &&& 31)) ≤ x7 then
    some (x3, falls, tears, tried_n, tried_holders, tried_cuts, tried_hour, tried_bears, tried_draw, tried_kind, tried_strength, tried_place, tried_length, tried_gives, tried_over, tried_under, fell)
  else
    if (x7 &&& (town_holders ^^^ (-1))) = 0 then
      b1 (f_X0_odds_L111 x1 x7 town_n town_holders FU 1 0) fun x8_15 =>
      b11 (f_X0_tries town_n town_holders town_cuts town_hour town_bears town_draw town_kind town_strength town_place town_length town_gives tried_kind tried_strength tried_place tried_length tried_gives) fun tried_n_16 tried_holders_17 tried_cuts_18 tried_hour_19 tried_bears_20 tried_draw_21 tried_kind_22 tried_strength_23 tried_place_24 tried_length_25 tried_gives_26 =>
      if (lg_cmp x8_15 0) ≤ 0 then
        k x3 (x7 + 1) falls tears tried_n_16 (tried_holders_17 &&& (x7 ^^^ (-1))) tried_cuts_18 tried_hour_19 tried_bears_20 tried_draw_21 tried_kind_22 tried_strength_23 tried_place_24 tried_length_25 tried_gives_26 tried_over tried_under fell
      else
        b8 (f_X0_isStill fell tried_n_16 (tried_holders_17 &&& (x7 ^^^ (-1))) tried_cuts_18 tried_hour_19 tried_bears_20 tried_kind_22 tried_strength_23 tried_place_24 tried_length_25 tried_gives_26 tried_over tried_under) fun r_28 falls_29 tears_30 fell_31 tried_holders_32 tried_cuts_33 tried_over_34 tried_under_35 =>
        if r_28 = 0 then
          k x3 (x7 + 1) falls_29 tears_30 tried_n_16 tried_holders_32 tried_cuts_33 tried_hour_19 tried_bears_20 tried_draw_21 tried_kind_22 tried_strength_23 tried_place_24 tried_length_25 tried_gives_26 tried_over_34 tried_under_35 fell_31
        else
          k (x3 + x8_15) (x7 + 1) falls_29 tears_30 tried_n_16 tried_holders_32 tried_cuts_33 tried_hour_19 tried_bears_20 tried_draw_21 tried_kind_22 tried_strength_23 tried_place_24 tried_length_25 tried_gives_26 tried_over_34 tried_under_35 fell_31
    else
      k x3 (x7 + 1) falls tears tried_n tried_holders tried_cuts tried_hour tried_bears tried_draw tried_kind tried_strength tried_place tried_length tried_gives tried_over tried_under fell
def f_X0_odds_L73 (x1 : Int32) (town_n : Int32) (town_holders : Int32) (town_cuts : Int32) (town_hour : Int32) (town_bears : Int32) (town_draw : Int32) (town_kind : Nat → Int32) (town_strength : Nat → Int32) (town_place : Nat → Int32) (town_length : Nat → Int32) (town_gives : Nat → Int32) : Nat → Int64 → Int32 → Int32 → Int32 → Int32 → Int32 → Int32 → Int32 → Int32 → Int32 → (Nat → Int32) → (Nat → Int32) → (Nat → Int32) → (Nat → Int32) → (Nat → Int32) → (Nat → Int32) → (Nat → Int32) → (Nat → Int32) → Option (Int64 × Int32 × Int32 × Int32 × Int32 × Int32 × Int32 × Int32 × Int32 × (Nat → Int32) × (Nat → Int32) × (Nat → Int32) × (Nat → Int32) × (Nat → Int32) × (Nat → Int32) × (Nat → Int32) × (Nat → Int32)) := lpf18 (t_X0_odds_L73 x1 town_n town_holders town_cuts town_hour town_bears town_draw town_kind town_strength town_place town_length town_gives)
def f_X0_odds (x1 : Int32) (x2 : Int32) (falls : Int32) (tears : Int32) (town_n : Int32) (town_holders : Int32) (town_cuts : Int32) (town_hour : Int32) (town_bears : Int32) (town_draw : Int32) (town_kind : Nat → Int32) (town_strength : Nat → Int32) (town_place : Nat → Int32) (town_length : Nat → Int32) (town_gives : Nat → Int32) (tried_n : Int32) (tried_holders : Int32) (tried_cuts : Int32) (tried_hour : Int32) (tried_bears : Int32) (tried_draw : Int32) (tried_kind : Nat → Int32) (tried_strength : Nat → Int32) (tried_place : Nat → Int32) (tried_length : Nat → Int32) (tried_gives : Nat → Int32) (tried_over : Nat → Int32) (tried_under : Nat → Int32) (fell : Nat → Int32) : Option (Int32 × Int32 × Int32 × Int32 × Int32 × Int32 × Int32 × Int32 × Int32 × (Nat → Int32) × (Nat → Int32) × (Nat → Int32) × (Nat → Int32) × (Nat → Int32) × (Nat → Int32) × (Nat → Int32) × (Nat → Int32)) :=
  b1 (f_X0_in x1.toInt64 0 10) fun r_1 =>
  if r_1 = 0 then
    some ((-1), falls, tears, tried_n, tried_holders, tried_cuts, tried_hour, tried_bears, tried_draw, tried_kind, tried_strength, tried_place, tried_length, tried_gives, tried_over, tried_under, fell)
  else
    b1 (f_X0_in x2.toInt64 0 1) fun r_3 =>
    if r_3 = 0 then
      some ((-1), falls, tears, tried_n, tried_holders, tried_cuts, tried_hour, tried_bears, tried_draw, tried_kind, tried_strength, tried_place, tried_length, tried_gives, tried_over, tried_under, fell)
    else
      b1 (f_X0_odds_L32 town_n town_holders FU 1 0) fun x5_8 =>
      b17 (f_X0_odds_L73 x1 town_n town_holders town_cuts town_hour town_bears town_draw town_kind town_strength town_place town_length town_gives FU 0 0 falls tears tried_n tried_holders tried_cuts tried_hour tried_bears tried_draw tried_kind tried_strength tried_place tried_length tried_gives tried_over tried_under fell) fun x3_37 falls_38 tears_39 tried_n_40 tried_holders_41 tried_cuts_42 tried_hour_43 tried_bears_44 tried_draw_45 tried_kind_46 tried_strength_47 tried_place_48 tried_length_49 tried_gives_50 tried_over_51 tried_under_52 fell_53 =>
      b2 (f_X9_init x3_37 x5_8) fun q54_f0_55 q54_f1_56 =>
      b1 (f_X9_told x2 q54_f0_55 q54_f1_56) fun r_57 =>
      some (r_57, falls_38, tears_39, tried_n_40, tried_holders_41, tried_cuts_42, tried_hour_43, tried_bears_44, tried_draw_45, tried_kind_46, tried_strength_47, tried_place_48, tried_length_49, tried_gives_50, tried_over_51, tried_under_52, fell_53)
def f_X0_mover (x2 : Int32) (t1_holders : Int32) : Option (Int32) :=
  if (x2 - x2 / 2 * 2) = 0 then
    b1 (f_J13_numberOfTrailingZeros t1_holders) fun r_2 =>
    some r_2
  else
    b1 (f_J13_numberOfLeadingZeros t1_holders) fun r_3 =>
    some (31 - r_3)
def f_X0_isSheet (x0 : Int32) : Option (Int32) :=
  b1 (f_X0_in x0.toInt64 0 3) fun r_1 =>
  if r_1 = 0 ∨ r_1 = 1 then some r_1 else none
def f_X0_isLane (x0 : Int32) : Option (Int32) :=
  b1 (f_X0_in x0.toInt64 0 3) fun r_1 =>
  if r_1 = 0 ∨ r_1 = 1 then some r_1 else none
def t_X0_isSo_L7 (taken : Nat → Int64) (t1_n : Int32) (t1_over : Nat → Int32) (t1_under : Nat → Int32) (k : Int32 → Option (Nat)) (x2 : Int32) : Option (Nat) :=
  if (t1_n - 1) ≤ x2 then
    some 1
  else
    if x2 < 0 ∨ 8 ≤ x2.toNatClampNeg then none else
    if (t1_under x2.toNatClampNeg) = 0 then none else
    if x2 < 0 ∨ 24 ≤ x2.toNatClampNeg then none else
    if (lg_cmp (((t1_over x2.toNatClampNeg) / (t1_under x2.toNatClampNeg)).toInt64) (taken x2.toNatClampNeg)) = 0 then
      k (x2 + 1)
    else
      some 0
def f_X0_isSo_L7 (taken : Nat → Int64) (t1_n : Int32) (t1_over : Nat → Int32) (t1_under : Nat → Int32) : Nat → Int32 → Option (Nat) := lpf1 (t_X0_isSo_L7 taken t1_n t1_over t1_under)
def f_X0_isSo (taken : Nat → Int64) (t1_n : Int32) (t1_holders : Int32) (t1_cuts : Int32) (t1_place : Nat → Int32) (t1_length : Nat → Int32) (t1_gives : Nat → Int32) (t1_over : Nat → Int32) (t1_under : Nat → Int32) : Option (Int32 × (Nat → Int32) × (Nat → Int32)) :=
  b2 (f_X6_measured t1_n t1_holders t1_cuts t1_place t1_length t1_gives t1_over t1_under) fun t1_over_1 t1_under_2 =>
  b1 (f_X0_isSo_L7 taken t1_n t1_over_1 t1_under_2 FU 0) fun tag_8 =>
  if tag_8 = 0 then
    some (0, t1_over_1, t1_under_2)
  else
    some (1, t1_over_1, t1_under_2)
def t_X0_gives_2_L3 (x1 : Int32) (x2 : Int32) (x3 : Int32) (taken : Nat → Int64) (k : Int32 → Option (Nat)) (x4 : Int32) : Option (Nat) :=
  if x3 ≤ x4 then
    some 1
  else
    if (2 * x4) < 0 ∨ 24 ≤ (2 * x4).toNatClampNeg then none else
    b1 (
      if (lg_cmp (taken (2 * x4).toNatClampNeg) x1.toInt64) ≤ 0 then
        some 0
      else
        some ((taken (2 * x4).toNatClampNeg) - x1.toInt64)
     : Option (Int64)) fun z_4 =>
    if x2.toInt64 = 0 then none else
    if ((2 * x4) + 1) < 0 ∨ 24 ≤ ((2 * x4) + 1).toNatClampNeg then none else
    if (lg_cmp (z_4 / x2.toInt64) (taken ((2 * x4) + 1).toNatClampNeg)) = 0 then
      k (x4 + 1)
    else
      some 0
def f_X0_gives_2_L3 (x1 : Int32) (x2 : Int32) (x3 : Int32) (taken : Nat → Int64) : Nat → Int32 → Option (Nat) := lpf1 (t_X0_gives_2_L3 x1 x2 x3 taken)
def f_X0_gives_2 (x1 : Int32) (x2 : Int32) (x3 : Int32) (taken : Nat → Int64) : Option (Int32) :=
  b1 (f_X0_gives_2_L3 x1 x2 x3 taken FU 0) fun tag_8 =>
  if tag_8 = 0 then
    some 0
  else
    some 1
def f_X1_init  : Option (Unit) :=
  some ()
def f_X2_init  : Option (Unit) :=
  b1 (f_X1_init) fun u_1 =>
  some ()
def f_X3_init  : Option (Unit) :=
  b1 (f_X2_init) fun u_1 =>
  some ()
def f_X4_init  : Option (Unit) :=
  b1 (f_X3_init) fun u_1 =>
  some ()
def f_X5_init  : Option (Unit) :=
  b1 (f_X1_init) fun u_1 =>
  some ()
def f_X7_init  : Option (Unit) :=
  some ()
def f_X0_init  : Option (Unit) :=
  b1 (f_X1_init) fun u_3 =>
  b1 (f_X2_init) fun u_5 =>
  b1 (f_X3_init) fun u_7 =>
  b1 (f_X4_init) fun u_9 =>
  b1 (f_X5_init) fun u_11 =>
  b1 (f_X6_init) fun u_13 =>
  b1 (f_X6_init) fun u_22 =>
  b1 (f_J1_init) fun u_34 =>
  b1 (f_X6_init) fun u_37 =>
  b1 (f_J1_init) fun u_46 =>
  b1 (f_X7_init) fun u_51 =>
  b1 (f_X7_init) fun u_53 =>
  b1 (f_X7_init) fun u_55 =>
  b1 (f_X7_init) fun u_57 =>
  some ()
def f_X8_init  : Option (Unit) :=
  some ()
def f_X8_in (x0 : Int64) (x2 : Int64) (x4 : Int64) : Option (Int32) :=
  if (lg_cmp x0 x2) < 0 then
    some 0
  else
    if 0 < (lg_cmp x0 x4) then
      some 0
    else
      some 1
def f_X8_type (x1 : Int32) (taped : Int32) (tape : Nat → Int32) : Option (Int32 × Int32 × (Nat → Int32)) :=
  b1 (f_X8_in x1.toInt64 32 126) fun r_1 =>
  if r_1 = 0 then
    some ((-1), taped, tape)
  else
    if taped = 90 then
      some ((-3), taped, tape)
    else
      if taped < 0 ∨ 90 ≤ taped.toNatClampNeg then none else
      some ((taped + 1), (taped + 1), upd tape taped.toNatClampNeg x1)
def t_X8_blanks_L0 (taped : Int32) (tape : Nat → Int32) (k : Int32 → Option (Int32)) (at_ : Int32) : Option (Int32) :=
  if taped ≤ at_ then
    some at_
  else
    if at_ < 0 ∨ 90 ≤ at_.toNatClampNeg then none else
    if (tape at_.toNatClampNeg) = 32 then
      k (at_ + 1)
    else
      some at_
def f_X8_blanks_L0 (taped : Int32) (tape : Nat → Int32) : Nat → Int32 → Option (Int32) := lpf1 (t_X8_blanks_L0 taped tape)
def f_X8_blanks (taped : Int32) (at_ : Int32) (tape : Nat → Int32) : Option (Int32 × Int32) :=
  b1 (f_X8_blanks_L0 taped tape FU at_) fun at__4 =>
  some (at__4, at__4)
def f_X8_here (taped : Int32) (at_ : Int32) (tape : Nat → Int32) : Option (Int32) :=
  if taped ≤ at_ then
    some (-1)
  else
    if at_ < 0 ∨ 90 ≤ at_.toNatClampNeg then none else
    some (tape at_.toNatClampNeg)
def t_X8_takesNumber_L12 (x3 : Int32) (taped : Int32) (tape : Nat → Int32) (k : Int32 → Int32 → Int32 → Option (Int32 × Int32 × Int32)) (x4 : Int32) (at_ : Int32) (number : Int32) : Option (Int32 × Int32 × Int32) :=
  if x3 ≤ x4 then
    some (x4, at_, number)
  else
    b1 (f_X8_here taped at_ tape) fun r_4 =>
    b1 (f_X8_in r_4.toInt64 48 57) fun r_5 =>
    if r_5 = 0 then
      some (x4, at_, number)
    else
      b1 (f_X8_here taped at_ tape) fun r_7 =>
      k (x4 + 1) (at_ + 1) (((10 * number) + r_7) - 48)
def f_X8_takesNumber_L12 (x3 : Int32) (taped : Int32) (tape : Nat → Int32) : Nat → Int32 → Int32 → Int32 → Option (Int32 × Int32 × Int32) := lpf3 (t_X8_takesNumber_L12 x3 taped tape)
def f_X8_takesNumber (x1 : Int32) (x2 : Int32) (x3 : Int32) (taped : Int32) (at_ : Int32) (tape : Nat → Int32) : Option (Int32 × Int32 × Int32 × Int32) :=
  b2 (f_X8_blanks taped at_ tape) fun at__1 start_2 =>
  b3 (f_X8_takesNumber_L12 x3 taped tape FU 0 at__1 0) fun x4_8 at__9 number_10 =>
  if x4_8 = 0 then
    some (0, at__9, start_2, number_10)
  else
    b1 (f_X8_in number_10.toInt64 x1.toInt64 x2.toInt64) fun r_12 =>
    if r_12 = 0 then
      some (0, at__9, start_2, number_10)
    else
      b1 (f_X8_here taped at__9 tape) fun r_14 =>
      b1 (f_X8_in r_14.toInt64 48 57) fun r_15 =>
      if r_15 = 0 then
        some (1, at__9, start_2, number_10)
      else
        some (0, at__9, at__9, number_10)
def f_X8_takes (x1 : Int32) (taped : Int32) (at_ : Int32) (tape : Nat → Int32) : Option (Int32 × Int32 × Int32) :=
  b2 (f_X8_blanks taped at_ tape) fun at__1 start_2 =>
  b1 (f_X8_here taped at__1 tape) fun r_3 =>
  b1 (
    if r_3 = x1 then
      some 1
    else
      some 0
   : Option (Int32)) fun z_5 =>
  if z_5 = 0 then
    if z_5 = 0 ∨ z_5 = 1 then some (z_5, (at__1 + 0), start_2) else none
  else
    if z_5 = 0 ∨ z_5 = 1 then some (z_5, (at__1 + 1), start_2) else none
def f_X8_kindOf (x0 : Int32) : Option (Int32) :=
  if x0 = 112 then
    some 0
  else
    if x0 = 115 then
      some 1
    else
      if x0 = 114 then
        some 2
      else
        if x0 = 121 then
          some 3
        else
          if x0 = 116 then
            some 4
          else
            some (-1)
def f_X8_takesPerson (taped : Int32) (at_ : Int32) (number : Int32) (tape : Nat → Int32) (read : Nat → Int32) : Option (Int32 × Int32 × Int32 × Int32 × (Nat → Int32)) :=
  b2 (f_X8_blanks taped at_ tape) fun at__1 start_2 =>
  b1 (f_X8_here taped at__1 tape) fun r_3 =>
  b1 (f_X8_kindOf r_3) fun r_4 =>
  if 0 ≤ r_4 then
    b4 (f_X8_takesNumber 1 30 2 taped (at__1 + 1) tape) fun r_6 at__7 start_8 number_9 =>
    if r_6 = 0 then
      some (0, at__7, start_8, number_9, read)
    else
      if (4 + (read (0 : Int32).toNatClampNeg)) < 0 ∨ 60 ≤ (4 + (read (0 : Int32).toNatClampNeg)).toNatClampNeg then none else
      if (12 + (read (0 : Int32).toNatClampNeg)) < 0 ∨ 60 ≤ (12 + (read (0 : Int32).toNatClampNeg)).toNatClampNeg then none else
      b3 (f_X8_takes 126 taped at__7 tape) fun r_13 at__14 start_15 =>
      if r_13 = 0 then
        b3 (f_X8_takes 64 taped at__14 tape) fun r_17 at__18 start_19 =>
        if r_17 = 0 then
          some (0, at__18, start_19, number_9, upd (upd (upd read (4 + (read (0 : Int32).toNatClampNeg)).toNatClampNeg r_4) (12 + (read (0 : Int32).toNatClampNeg)).toNatClampNeg number_9) (0 : Int32).toNatClampNeg (((upd (upd read (4 + (read (0 : Int32).toNatClampNeg)).toNatClampNeg r_4) (12 + (read (0 : Int32).toNatClampNeg)).toNatClampNeg number_9) (0 : Int32).toNatClampNeg) + 1))
        else
          b4 (f_X8_takesNumber 0 99 2 taped at__18 tape) fun r_21 at__22 start_23 number_24 =>
          if r_21 = 0 then
            some (0, at__22, start_23, number_24, upd (upd (upd read (4 + (read (0 : Int32).toNatClampNeg)).toNatClampNeg r_4) (12 + (read (0 : Int32).toNatClampNeg)).toNatClampNeg number_9) (0 : Int32).toNatClampNeg (((upd (upd read (4 + (read (0 : Int32).toNatClampNeg)).toNatClampNeg r_4) (12 + (read (0 : Int32).toNatClampNeg)).toNatClampNeg number_9) (0 : Int32).toNatClampNeg) + 1))
          else
            if (20 + (read (0 : Int32).toNatClampNeg)) < 0 ∨ 60 ≤ (20 + (read (0 : Int32).toNatClampNeg)).toNatClampNeg then none else
            if (28 + (read (0 : Int32).toNatClampNeg)) < 0 ∨ 60 ≤ (28 + (read (0 : Int32).toNatClampNeg)).toNatClampNeg then none else
            some (1, at__22, start_23, number_24, upd (upd (upd (upd (upd read (4 + (read (0 : Int32).toNatClampNeg)).toNatClampNeg r_4) (12 + (read (0 : Int32).toNatClampNeg)).toNatClampNeg number_9) (0 : Int32).toNatClampNeg (((upd (upd read (4 + (read (0 : Int32).toNatClampNeg)).toNatClampNeg r_4) (12 + (read (0 : Int32).toNatClampNeg)).toNatClampNeg number_9) (0 : Int32).toNatClampNeg) + 1)) (20 + (read (0 : Int32).toNatClampNeg)).toNatClampNeg 1) (28 + (read (0 : Int32).toNatClampNeg)).toNatClampNeg number_24)
      else
        if (20 + (read (0 : Int32).toNatClampNeg)) < 0 ∨ 60 ≤ (20 + (read (0 : Int32).toNatClampNeg)).toNatClampNeg then none else
        if (28 + (read (0 : Int32).toNatClampNeg)) < 0 ∨ 60 ≤ (28 + (read (0 : Int32).toNatClampNeg)).toNatClampNeg then none else
        some (1, at__14, start_15, number_9, upd (upd (upd (upd (upd read (4 + (read (0 : Int32).toNatClampNeg)).toNatClampNeg r_4) (12 + (read (0 : Int32).toNatClampNeg)).toNatClampNeg number_9) (0 : Int32).toNatClampNeg (((upd (upd read (4 + (read (0 : Int32).toNatClampNeg)).toNatClampNeg r_4) (12 + (read (0 : Int32).toNatClampNeg)).toNatClampNeg number_9) (0 : Int32).toNatClampNeg) + 1)) (20 + (read (0 : Int32).toNatClampNeg)).toNatClampNeg 0) (28 + (read (0 : Int32).toNatClampNeg)).toNatClampNeg 0)
  else
    some (0, at__1, start_2, number, read)
def f_X8_takesSeam (taped : Int32) (at_ : Int32) (tape : Nat → Int32) (read : Nat → Int32) : Option (Int32 × Int32 × Int32 × Int32 × (Nat → Int32)) :=
  nm ((read (0 : Int32).toNatClampNeg) - 1) fun y_1 =>
  b4 (f_X8_takesNumber 1 20 2 taped at_ tape) fun r_2 at__3 start_4 number_5 =>
  if r_2 = 0 then
    some (0, at__3, start_4, number_5, read)
  else
    if (36 + y_1) < 0 ∨ 60 ≤ (36 + y_1).toNatClampNeg then none else
    b3 (f_X8_takes 120 taped at__3 tape) fun r_8 at__9 start_10 =>
    if r_8 = 0 then
      some (0, at__9, start_10, number_5, upd read (36 + y_1).toNatClampNeg number_5)
    else
      b4 (f_X8_takesNumber 1 9 1 taped at__9 tape) fun r_12 at__13 start_14 number_15 =>
      if r_12 = 0 then
        some (0, at__13, start_14, number_15, upd read (36 + y_1).toNatClampNeg number_5)
      else
        if (44 + y_1) < 0 ∨ 60 ≤ (44 + y_1).toNatClampNeg then none else
        some (1, at__13, start_14, number_15, upd (upd read (36 + y_1).toNatClampNeg number_5) (44 + y_1).toNatClampNeg number_15)
def t_X8_readsAll_L7  (k : Int32 → (Nat → Int32) → Option ((Nat → Int32))) (x1 : Int32) (read : Nat → Int32) : Option ((Nat → Int32)) :=
  if 60 ≤ x1 then
    some read
  else
    if x1 < 0 ∨ 60 ≤ x1.toNatClampNeg then none else
    k (x1 + 1) (upd read x1.toNatClampNeg 0)
def f_X8_readsAll_L7  : Nat → Int32 → (Nat → Int32) → Option ((Nat → Int32)) := lpf2 (t_X8_readsAll_L7)
def t_X8_readsAll_L71 (taped : Int32) (tape : Nat → Int32) (k : Int32 → Int32 → Int32 → (Nat → Int32) → Option (Nat × Int32 × Int32 × Int32 × (Nat → Int32))) (at_ : Int32) (start : Int32) (number : Int32) (read : Nat → Int32) : Option (Nat × Int32 × Int32 × Int32 × (Nat → Int32)) :=
  b1 (f_X8_here taped at_ tape) fun r_21 =>
  if r_21 < 0 then
    some (1, at_, start, number, read)
  else
    if (read (0 : Int32).toNatClampNeg) = 8 then
      some (0, at_, start, number, read)
    else
      b3 (f_X8_takes 45 taped at_ tape) fun r_24 at__25 start_26 =>
      if r_24 = 0 then
        some (0, at__25, start_26, number, read)
      else
        b5 (f_X8_takesSeam taped at__25 tape read) fun r_28 at__29 start_30 number_31 read_32 =>
        if r_28 = 0 then
          some (0, at__29, start_30, number_31, read_32)
        else
          b5 (f_X8_takesPerson taped at__29 number_31 tape read_32) fun r_34 at__35 start_36 number_37 read_38 =>
          if r_34 = 0 then
            some (0, at__35, start_36, number_37, read_38)
          else
            b2 (f_X8_blanks taped at__35 tape) fun at__40 start_41 =>
            k at__40 start_41 number_37 read_38
def f_X8_readsAll_L71 (taped : Int32) (tape : Nat → Int32) : Nat → Int32 → Int32 → Int32 → (Nat → Int32) → Option (Nat × Int32 × Int32 × Int32 × (Nat → Int32)) := lpf4 (t_X8_readsAll_L71 taped tape)
def f_X8_readsAll (taped : Int32) (tape : Nat → Int32) (read : Nat → Int32) : Option (Int32 × Int32 × Int32 × Int32 × (Nat → Int32)) :=
  b1 (f_X8_readsAll_L7 FU 0 read) fun read_3 =>
  b4 (f_X8_takesNumber 1 60 2 taped 0 tape) fun r_4 at__5 start_6 number_7 =>
  if r_4 = 0 then
    some (0, at__5, start_6, number_7, read_3)
  else
    b3 (f_X8_takes 58 taped at__5 tape) fun r_9 at__10 start_11 =>
    if r_9 = 0 then
      some (0, at__10, start_11, number_7, upd read_3 (1 : Int32).toNatClampNeg number_7)
    else
      b5 (f_X8_takesPerson taped at__10 number_7 tape (upd read_3 (1 : Int32).toNatClampNeg number_7)) fun r_13 at__14 start_15 number_16 read_17 =>
      if r_13 = 0 then
        some (0, at__14, start_15, number_16, read_17)
      else
        b2 (f_X8_blanks taped at__14 tape) fun at__19 start_20 =>
        b5 (f_X8_readsAll_L71 taped tape FU at__19 start_20 number_16 read_17) fun tag_42 at__43 start_44 number_45 read_46 =>
        if tag_42 = 0 then
          some (0, at__43, start_44, number_45, read_46)
        else
          some (1, at__43, start_44, number_45, read_46)
def f_X8_holds (x1 : Int32) (x2 : Int32) (w : Nat → Int32) : Option (Int32) :=
  if ((x1 + 20) + x2) < 0 ∨ 1142 ≤ ((x1 + 20) + x2).toNatClampNeg then none else
  if (w ((x1 + 20) + x2).toNatClampNeg) = 1 then
    some 1
  else
    some 0
def t_X8_nextRight_L4 (x1 : Int32) (w : Nat → Int32) (k : Int32 → Option (Nat × Int32)) (x3 : Int32) : Option (Nat × Int32) :=
  if (x1 + 0) < 0 ∨ 1142 ≤ (x1 + 0).toNatClampNeg then none else
  if (w (x1 + 0).toNatClampNeg) ≤ x3 then
    some (2, x3)
  else
    if (((x1 + 52) + x3) - 1) < 0 ∨ 1142 ≤ (((x1 + 52) + x3) - 1).toNatClampNeg then none else
    if (w (((x1 + 52) + x3) - 1).toNatClampNeg) = 1 then
      some (0, x3)
    else
      b1 (f_X8_holds x1 x3 w) fun r_5 =>
      if r_5 = 0 then
        k (x3 + 1)
      else
        some (1, x3)
def f_X8_nextRight_L4 (x1 : Int32) (w : Nat → Int32) : Nat → Int32 → Option (Nat × Int32) := lpf1 (t_X8_nextRight_L4 x1 w)
def f_X8_nextRight (x1 : Int32) (x2 : Int32) (w : Nat → Int32) : Option (Int32) :=
  b2 (f_X8_nextRight_L4 x1 w FU (x2 + 1)) fun tag_7 x3_8 =>
  if tag_7 = 0 then
    some (-4)
  else
    if tag_7 = 1 then
      some x3_8
    else
      some (-4)
def t_X8_sumOf_L6 (x1 : Int32) (x3 : Int32) (w : Nat → Int32) (k : Int32 → Int32 → Option (Int32)) (x4 : Int32) (x5 : Int32) : Option (Int32) :=
  if x3 ≤ x5 then
    some x4
  else
    if (x1 + x5) < 0 ∨ 1142 ≤ (x1 + x5).toNatClampNeg then none else
    k (x4 + (w (x1 + x5).toNatClampNeg)) (x5 + 1)
def f_X8_sumOf_L6 (x1 : Int32) (x3 : Int32) (w : Nat → Int32) : Nat → Int32 → Int32 → Option (Int32) := lpf2 (t_X8_sumOf_L6 x1 x3 w)
def f_X8_sumOf (x1 : Int32) (x2 : Int32) (x3 : Int32) (w : Nat → Int32) : Option (Int32) :=
  b1 (f_X8_sumOf_L6 x1 x3 w FU 0 x2) fun x4_3 =>
  some x4_3
def t_X8_layPulls_L2  (k : Int32 → (Nat → Int32) → (Nat → Int32) → Option ((Nat → Int32) × (Nat → Int32))) (x2 : Int32) (up : Nat → Int32) (down : Nat → Int32) : Option ((Nat → Int32) × (Nat → Int32)) :=
  if 8 ≤ x2 then
    some (up, down)
  else
    if x2 < 0 ∨ 8 ≤ x2.toNatClampNeg then none else
    k (x2 + 1) (upd up x2.toNatClampNeg 0) (upd down x2.toNatClampNeg 1)
def f_X8_layPulls_L2  : Nat → Int32 → (Nat → Int32) → (Nat → Int32) → Option ((Nat → Int32) × (Nat → Int32)) := lpf3 (t_X8_layPulls_L2)
def t_X8_layPulls_L106 (x1 : Int32) (x2 : Int32) (x3 : Int32) (x4 : Int32) (w : Nat → Int32) (k : Int32 → (Nat → Int32) → (Nat → Int32) → Option ((Nat → Int32) × (Nat → Int32))) (x5 : Int32) (up : Nat → Int32) (down : Nat → Int32) : Option ((Nat → Int32) × (Nat → Int32)) :=
  if x3 ≤ x5 then
    some (up, down)
  else
    if x4 ≤ 0 then
      some (up, down)
    else
      if x5 < 0 ∨ 8 ≤ x5.toNatClampNeg then none else
      b1 (f_X8_sumOf (x1 + 44) x2 x3 w) fun r_20 =>
      k (x5 + 1) (upd up x5.toNatClampNeg x4) (upd down x5.toNatClampNeg r_20)
def f_X8_layPulls_L106 (x1 : Int32) (x2 : Int32) (x3 : Int32) (x4 : Int32) (w : Nat → Int32) : Nat → Int32 → (Nat → Int32) → (Nat → Int32) → Option ((Nat → Int32) × (Nat → Int32)) := lpf3 (t_X8_layPulls_L106 x1 x2 x3 x4 w)
def t_X8_layPulls_L30 (x1 : Int32) (w : Nat → Int32) (k : Int32 → (Nat → Int32) → (Nat → Int32) → Option ((Nat → Int32) × (Nat → Int32))) (x2 : Int32) (up : Nat → Int32) (down : Nat → Int32) : Option ((Nat → Int32) × (Nat → Int32)) :=
  if (x1 + 0) < 0 ∨ 1142 ≤ (x1 + 0).toNatClampNeg then none else
  if (w (x1 + 0).toNatClampNeg) ≤ x2 then
    some (up, down)
  else
    b1 (f_X8_holds x1 x2 w) fun r_7 =>
    b1 (
      if r_7 = 0 then
        some (-4)
      else
        b1 (f_X8_nextRight x1 x2 w) fun r_11 =>
        some r_11
     : Option (Int32)) fun z_10 =>
    if z_10 < 0 then
      k (x2 + 1) up down
    else
      if ((x1 + 28) + z_10) < 0 ∨ 1142 ≤ ((x1 + 28) + z_10).toNatClampNeg then none else
      if ((x1 + 28) + x2) < 0 ∨ 1142 ≤ ((x1 + 28) + x2).toNatClampNeg then none else
      b1 (f_X8_sumOf (x1 + 36) x2 z_10 w) fun r_15 =>
      nm (((w ((x1 + 28) + z_10).toNatClampNeg) - (w ((x1 + 28) + x2).toNatClampNeg)) - r_15) fun y_16 =>
      b2 (f_X8_layPulls_L106 x1 x2 z_10 y_16 w FU x2 up down) fun up_21 down_22 =>
      k (x2 + 1) up_21 down_22
def f_X8_layPulls_L30 (x1 : Int32) (w : Nat → Int32) : Nat → Int32 → (Nat → Int32) → (Nat → Int32) → Option ((Nat → Int32) × (Nat → Int32)) := lpf3 (t_X8_layPulls_L30 x1 w)
def f_X8_layPulls (x1 : Int32) (w : Nat → Int32) (up : Nat → Int32) (down : Nat → Int32) : Option ((Nat → Int32) × (Nat → Int32)) :=
  b2 (f_X8_layPulls_L2 FU 0 up down) fun up_3 down_4 =>
  b2 (f_X8_layPulls_L30 x1 w FU 0 up_3 down_4) fun up_23 down_24 =>
  some (up_23, down_24)
def t_X8_tornSeam_L2 (x1 : Int32) (w : Nat → Int32) (up : Nat → Int32) (down : Nat → Int32) (k : Int32 → Option (Nat × Int32)) (x2 : Int32) : Option (Nat × Int32) :=
  if (x1 + 0) < 0 ∨ 1142 ≤ (x1 + 0).toNatClampNeg then none else
  if (w (x1 + 0).toNatClampNeg) ≤ (x2 + 1) then
    some (1, x2)
  else
    if x2 < 0 ∨ 8 ≤ x2.toNatClampNeg then none else
    if (x1 + 1) < 0 ∨ 1142 ≤ (x1 + 1).toNatClampNeg then none else
    if (up x2.toNatClampNeg) ≤ ((w (x1 + 1).toNatClampNeg) * (down x2.toNatClampNeg)) then
      k (x2 + 1)
    else
      some (0, x2)
def f_X8_tornSeam_L2 (x1 : Int32) (w : Nat → Int32) (up : Nat → Int32) (down : Nat → Int32) : Nat → Int32 → Option (Nat × Int32) := lpf1 (t_X8_tornSeam_L2 x1 w up down)
def f_X8_tornSeam (x1 : Int32) (w : Nat → Int32) (up : Nat → Int32) (down : Nat → Int32) : Option (Int32) :=
  b2 (f_X8_tornSeam_L2 x1 w up down FU 0) fun tag_6 x2_7 =>
  if tag_6 = 0 then
    some x2_7
  else
    some (-4)
def t_X8_cuts_L7 (x1 : Int32) (w : Nat → Int32) (k : Int32 → Int32 → Option (Int32)) (x3 : Int32) (x4 : Int32) : Option (Int32) :=
  b1 (f_X8_holds x1 x4 w) fun r_1 =>
  if r_1 = 0 then
    if ((x1 + 44) + x4) < 0 ∨ 1142 ≤ ((x1 + 44) + x4).toNatClampNeg then none else
    if ((x1 + 44) + x3) < 0 ∨ 1142 ≤ ((x1 + 44) + x3).toNatClampNeg then none else
    if (w ((x1 + 44) + x4).toNatClampNeg) ≤ (w ((x1 + 44) + x3).toNatClampNeg) then
      k x3 (x4 + 1)
    else
      k x4 (x4 + 1)
  else
    some x3
def f_X8_cuts_L7 (x1 : Int32) (w : Nat → Int32) : Nat → Int32 → Int32 → Option (Int32) := lpf2 (t_X8_cuts_L7 x1 w)
def f_X8_cuts (x1 : Int32) (x2 : Int32) (w : Nat → Int32) : Option ((Nat → Int32)) :=
  b1 (f_X8_cuts_L7 x1 w FU x2 (x2 + 1)) fun x3_6 =>
  if ((x1 + 52) + x3_6) < 0 ∨ 1142 ≤ ((x1 + 52) + x3_6).toNatClampNeg then none else
  some (upd w ((x1 + 52) + x3_6).toNatClampNeg 1)
def f_X8_layPulled (x1 : Int32) (x2 : Int32) (w : Nat → Int32) (up : Nat → Int32) (down : Nat → Int32) : Option (Int32 × Int32) :=
  if (x1 + 0) < 0 ∨ 1142 ≤ (x1 + 0).toNatClampNeg then none else
  b1 (
    if (w (x1 + 0).toNatClampNeg) ≤ (x2 + 1) then
      some 0
    else
      if x2 < 0 ∨ 8 ≤ x2.toNatClampNeg then none else
      some (up x2.toNatClampNeg)
   : Option (Int32)) fun z_4 =>
  b1 (
    if (w (x1 + 0).toNatClampNeg) ≤ (x2 + 1) then
      some 1
    else
      if x2 < 0 ∨ 8 ≤ x2.toNatClampNeg then none else
      some (down x2.toNatClampNeg)
   : Option (Int32)) fun z_8 =>
  b1 (
    if x2 ≤ 0 then
      some 0
    else
      if (x2 - 1) < 0 ∨ 8 ≤ (x2 - 1).toNatClampNeg then none else
      some (up (x2 - 1).toNatClampNeg)
   : Option (Int32)) fun z_12 =>
  b1 (
    if x2 ≤ 0 then
      some 1
    else
      if (x2 - 1) < 0 ∨ 8 ≤ (x2 - 1).toNatClampNeg then none else
      some (down (x2 - 1).toNatClampNeg)
   : Option (Int32)) fun z_16 =>
  b1 (f_X8_holds x1 x2 w) fun r_18 =>
  b1 (
    if r_18 = 0 then
      some 0
    else
      some ((z_4 * z_16) - (z_12 * z_8))
   : Option (Int32)) fun z_20 =>
  b1 (f_X8_holds x1 x2 w) fun r_21 =>
  if r_21 = 0 then
    some (z_20, 1)
  else
    some (z_20, (z_8 * z_16))
def f_X8_stout (x0 : Int32) (x1 : Int32) : Option (Int32) :=
  b1 (f_X8_in x1.toInt64 7 8) fun r_1 =>
  if r_1 = 0 then
    some (2 * x0)
  else
    some x0
def f_X8_parson (x0 : Int32) (x1 : Int32) : Option (Int32) :=
  b1 (f_X8_stout x0 x1) fun r_1 =>
  b1 (f_X8_in x1.toInt64 9 11) fun r_2 =>
  if r_2 = 0 then
    some r_1
  else
    if 2 ≤ r_1 then
      some (r_1 - 2)
    else
      some 0
def f_X8_outOf (x1 : Int32) (x2 : Int32) (w : Nat → Int32) : Option (Int32) :=
  if ((x1 + 12) + x2) < 0 ∨ 1142 ≤ ((x1 + 12) + x2).toNatClampNeg then none else
  if (x1 + 2) < 0 ∨ 1142 ≤ (x1 + 2).toNatClampNeg then none else
  if ((x1 + 4) + x2) < 0 ∨ 1142 ≤ ((x1 + 4) + x2).toNatClampNeg then none else
  if (w ((x1 + 4) + x2).toNatClampNeg) = 1 then
    b1 (f_X8_stout (w ((x1 + 12) + x2).toNatClampNeg) (w (x1 + 2).toNatClampNeg)) fun r_5 =>
    some r_5
  else
    if (w ((x1 + 4) + x2).toNatClampNeg) = 2 then
      b1 (f_X8_parson (w ((x1 + 12) + x2).toNatClampNeg) (w (x1 + 2).toNatClampNeg)) fun r_7 =>
      some r_7
    else
      if (w ((x1 + 4) + x2).toNatClampNeg) = 3 then
        b1 (f_X8_in ((w (x1 + 2).toNatClampNeg).toInt64) 15 16) fun r_9 =>
        if r_9 = 0 then
          b1 (f_X8_parson (w ((x1 + 12) + x2).toNatClampNeg) (w (x1 + 2).toNatClampNeg)) fun r_11 =>
          some r_11
        else
          some 0
      else
        if (w ((x1 + 4) + x2).toNatClampNeg) = 4 then
          b1 (
            if x2 ≤ 0 then
              some 0
            else
              b1 (f_X8_holds x1 (x2 - 1) w) fun r_17 =>
              if r_17 = 0 then
                some 1
              else
                some 0
           : Option (Int32)) fun z_16 =>
          if (x1 + 0) < 0 ∨ 1142 ≤ (x1 + 0).toNatClampNeg then none else
          if (w (x1 + 0).toNatClampNeg) ≤ (x2 + 1) then
            some (((w ((x1 + 12) + x2).toNatClampNeg) + z_16) + 0)
          else
            b1 (f_X8_holds x1 (x2 + 1) w) fun r_21 =>
            if r_21 = 0 then
              some (((w ((x1 + 12) + x2).toNatClampNeg) + z_16) + 1)
            else
              some (((w ((x1 + 12) + x2).toNatClampNeg) + z_16) + 0)
        else
          some (w ((x1 + 12) + x2).toNatClampNeg)
def f_X8_isPulledOff (x1 : Int32) (x2 : Int32) (w : Nat → Int32) (up : Nat → Int32) (down : Nat → Int32) : Option (Int32 × Int32 × Int32) :=
  b2 (f_X8_layPulled x1 x2 w up down) fun above_1 below_2 =>
  b1 (
    if 0 ≤ above_1 then
      some above_1
    else
      some (-above_1)
   : Option (Int32)) fun z_4 =>
  b1 (f_X8_holds x1 x2 w) fun r_5 =>
  if r_5 = 0 then
    some (0, above_1, below_2)
  else
    b1 (f_X8_outOf x1 x2 w) fun r_7 =>
    if z_4 ≤ (r_7 * below_2) then
      some (0, above_1, below_2)
    else
      some (1, above_1, below_2)
def t_X8_settles_L60 (x1 : Int32) (up : Nat → Int32) (down : Nat → Int32) (k : Int32 → Int32 → Int32 → Int32 → Int32 → (Nat → Int32) → (Nat → Int32) → Option (Int32 × Int32 × Int32 × Int32 × (Nat → Int32) × (Nat → Int32))) (x2 : Int32) (x4 : Int32) (above : Int32) (below : Int32) (fallen : Int32) (w : Nat → Int32) (fell : Nat → Int32) : Option (Int32 × Int32 × Int32 × Int32 × (Nat → Int32) × (Nat → Int32)) :=
  if (x1 + 0) < 0 ∨ 1142 ≤ (x1 + 0).toNatClampNeg then none else
  if (w (x1 + 0).toNatClampNeg) ≤ x4 then
    some (x2, above, below, fallen, w, fell)
  else
    if x2 = 0 then
      b3 (f_X8_isPulledOff x1 x4 w up down) fun r_15 above_16 below_17 =>
      if r_15 = 0 then
        k x2 (x4 + 1) above_16 below_17 fallen w fell
      else
        if ((x1 + 20) + x4) < 0 ∨ 1142 ≤ ((x1 + 20) + x4).toNatClampNeg then none else
        if fallen < 0 ∨ 8 ≤ fallen.toNatClampNeg then none else
        k 1 (x4 + 1) above_16 below_17 (fallen + 1) (upd w ((x1 + 20) + x4).toNatClampNeg 0) (upd fell fallen.toNatClampNeg x4)
    else
      some (x2, above, below, fallen, w, fell)
def f_X8_settles_L60 (x1 : Int32) (up : Nat → Int32) (down : Nat → Int32) : Nat → Int32 → Int32 → Int32 → Int32 → Int32 → (Nat → Int32) → (Nat → Int32) → Option (Int32 × Int32 × Int32 × Int32 × (Nat → Int32) × (Nat → Int32)) := lpf7 (t_X8_settles_L60 x1 up down)
def t_X8_settles_L12 (x1 : Int32) (k : Int32 → Int32 → Int32 → Int32 → Int32 → (Nat → Int32) → (Nat → Int32) → (Nat → Int32) → (Nat → Int32) → Option (Int32 × Int32 × Int32 × Int32 × (Nat → Int32) × (Nat → Int32) × (Nat → Int32) × (Nat → Int32))) (x2 : Int32) (above : Int32) (below : Int32) (fallen : Int32) (torn : Int32) (w : Nat → Int32) (up : Nat → Int32) (down : Nat → Int32) (fell : Nat → Int32) : Option (Int32 × Int32 × Int32 × Int32 × (Nat → Int32) × (Nat → Int32) × (Nat → Int32) × (Nat → Int32)) :=
  if x2 = 0 then
    some (above, below, fallen, torn, w, up, down, fell)
  else
    b2 (f_X8_layPulls x1 w up down) fun up_2 down_3 =>
    b1 (f_X8_tornSeam x1 w up_2 down_3) fun r_4 =>
    b1 (
      if r_4 < 0 then
        some 0
      else
        some 1
     : Option (Int32)) fun z_6 =>
    b2 (
      if z_6 = 0 then
        some (torn, w)
      else
        b1 (f_X8_cuts x1 r_4 w) fun w_11 =>
        some ((torn + 1), w_11)
     : Option (Int32 × (Nat → Int32))) fun torn_9 w_10 =>
    b6 (f_X8_settles_L60 x1 up_2 down_3 FU z_6 0 above below fallen w_10 fell) fun x2_21 above_22 below_23 fallen_24 w_25 fell_26 =>
    k x2_21 above_22 below_23 fallen_24 torn_9 w_25 up_2 down_3 fell_26
def f_X8_settles_L12 (x1 : Int32) : Nat → Int32 → Int32 → Int32 → Int32 → Int32 → (Nat → Int32) → (Nat → Int32) → (Nat → Int32) → (Nat → Int32) → Option (Int32 × Int32 × Int32 × Int32 × (Nat → Int32) × (Nat → Int32) × (Nat → Int32) × (Nat → Int32)) := lpf9 (t_X8_settles_L12 x1)
def f_X8_settles (x1 : Int32) (above : Int32) (below : Int32) (w : Nat → Int32) (up : Nat → Int32) (down : Nat → Int32) (fell : Nat → Int32) : Option (Int32 × Int32 × Int32 × Int32 × (Nat → Int32) × (Nat → Int32) × (Nat → Int32) × (Nat → Int32)) :=
  b8 (f_X8_settles_L12 x1 FU 1 above below 0 0 w up down fell) fun above_27 below_28 fallen_29 torn_30 w_31 up_32 down_33 fell_34 =>
  some (above_27, below_28, fallen_29, torn_30, w_31, up_32, down_33, fell_34)
def t_X8_street_L44 (read : Nat → Int32) (k : Int32 → (Nat → Int32) → Option ((Nat → Int32))) (x2 : Int32) (w : Nat → Int32) : Option ((Nat → Int32)) :=
  if 60 ≤ x2 then
    some w
  else
    if x2 < 0 ∨ 60 ≤ x2.toNatClampNeg then none else
    if x2 < 0 ∨ 1142 ≤ x2.toNatClampNeg then none else
    k (x2 + 1) (upd w x2.toNatClampNeg (read x2.toNatClampNeg))
def f_X8_street_L44 (read : Nat → Int32) : Nat → Int32 → (Nat → Int32) → Option ((Nat → Int32)) := lpf2 (t_X8_street_L44 read)
def f_X8_street (taped : Int32) (above : Int32) (below : Int32) (fallen : Int32) (torn : Int32) (w : Nat → Int32) (tape : Nat → Int32) (up : Nat → Int32) (down : Nat → Int32) (fell : Nat → Int32) (read : Nat → Int32) : Option (Int32 × Int32 × Int32 × Int32 × Int32 × Int32 × Int32 × Int32 × Int32 × (Nat → Int32) × (Nat → Int32) × (Nat → Int32) × (Nat → Int32) × (Nat → Int32)) :=
  b5 (f_X8_readsAll taped tape read) fun r_1 at__2 start_3 number_4 read_5 =>
  if r_1 = 0 then
    some (((-20) - start_3), 0, above, below, fallen, torn, at__2, start_3, number_4, w, up, down, fell, read_5)
  else
    b1 (f_X8_street_L44 (upd (upd read_5 (2 : Int32).toNatClampNeg 8) (3 : Int32).toNatClampNeg (w (3 : Int32).toNatClampNeg)) FU 0 w) fun w_10 =>
    b8 (f_X8_settles 0 above below (upd w_10 (60 : Int32).toNatClampNeg 0) up down fell) fun above_11 below_12 fallen_13 torn_14 w_15 up_16 down_17 fell_18 =>
    some ((w_15 (0 : Int32).toNatClampNeg), 0, above_11, below_12, fallen_13, torn_14, at__2, start_3, number_4, w_15, up_16, down_17, fell_18, upd (upd read_5 (2 : Int32).toNatClampNeg 8) (3 : Int32).toNatClampNeg (w (3 : Int32).toNatClampNeg))
def f_X8_person (x1 : Int32) (x2 : Int32) (x3 : Int32) (x4 : Int32) (x5 : Int32) (above : Int32) (below : Int32) (fallen : Int32) (torn : Int32) (w : Nat → Int32) (up : Nat → Int32) (down : Nat → Int32) (fell : Nat → Int32) : Option (Int32 × Int32 × Int32 × Int32 × Int32 × (Nat → Int32) × (Nat → Int32) × (Nat → Int32) × (Nat → Int32)) :=
  b1 (f_X8_in x1.toInt64 0 4) fun r_1 =>
  if r_1 = 0 then
    some ((-1), above, below, fallen, torn, w, up, down, fell)
  else
    b1 (f_X8_in x2.toInt64 1 30) fun r_3 =>
    if r_3 = 0 then
      some ((-1), above, below, fallen, torn, w, up, down, fell)
    else
      b1 (f_X8_in x3.toInt64 0 99) fun r_5 =>
      if r_5 = 0 then
        some ((-1), above, below, fallen, torn, w, up, down, fell)
      else
        b1 (f_X8_in x4.toInt64 1 20) fun r_7 =>
        if r_7 = 0 then
          some ((-1), above, below, fallen, torn, w, up, down, fell)
        else
          b1 (f_X8_in x5.toInt64 1 9) fun r_9 =>
          if r_9 = 0 then
            some ((-1), above, below, fallen, torn, w, up, down, fell)
          else
            if (w (0 : Int32).toNatClampNeg) = 8 then
              some ((-3), above, below, fallen, torn, w, up, down, fell)
            else
              if (4 + (w (0 : Int32).toNatClampNeg)) < 0 ∨ 1142 ≤ (4 + (w (0 : Int32).toNatClampNeg)).toNatClampNeg then none else
              if (12 + (w (0 : Int32).toNatClampNeg)) < 0 ∨ 1142 ≤ (12 + (w (0 : Int32).toNatClampNeg)).toNatClampNeg then none else
              if (20 + (w (0 : Int32).toNatClampNeg)) < 0 ∨ 1142 ≤ (20 + (w (0 : Int32).toNatClampNeg)).toNatClampNeg then none else
              if (28 + (w (0 : Int32).toNatClampNeg)) < 0 ∨ 1142 ≤ (28 + (w (0 : Int32).toNatClampNeg)).toNatClampNeg then none else
              b1 (
                if (w (0 : Int32).toNatClampNeg) ≤ 0 then
                  some (upd (upd (upd (upd w (4 + (w (0 : Int32).toNatClampNeg)).toNatClampNeg x1) (12 + (w (0 : Int32).toNatClampNeg)).toNatClampNeg x2) (20 + (w (0 : Int32).toNatClampNeg)).toNatClampNeg 1) (28 + (w (0 : Int32).toNatClampNeg)).toNatClampNeg x3)
                else
                  if ((36 + (w (0 : Int32).toNatClampNeg)) - 1) < 0 ∨ 1142 ≤ ((36 + (w (0 : Int32).toNatClampNeg)) - 1).toNatClampNeg then none else
                  if ((44 + (w (0 : Int32).toNatClampNeg)) - 1) < 0 ∨ 1142 ≤ ((44 + (w (0 : Int32).toNatClampNeg)) - 1).toNatClampNeg then none else
                  if ((52 + (w (0 : Int32).toNatClampNeg)) - 1) < 0 ∨ 1142 ≤ ((52 + (w (0 : Int32).toNatClampNeg)) - 1).toNatClampNeg then none else
                  some (upd (upd (upd (upd (upd (upd (upd w (4 + (w (0 : Int32).toNatClampNeg)).toNatClampNeg x1) (12 + (w (0 : Int32).toNatClampNeg)).toNatClampNeg x2) (20 + (w (0 : Int32).toNatClampNeg)).toNatClampNeg 1) (28 + (w (0 : Int32).toNatClampNeg)).toNatClampNeg x3) ((36 + (w (0 : Int32).toNatClampNeg)) - 1).toNatClampNeg x4) ((44 + (w (0 : Int32).toNatClampNeg)) - 1).toNatClampNeg x5) ((52 + (w (0 : Int32).toNatClampNeg)) - 1).toNatClampNeg 0)
               : Option ((Nat → Int32))) fun w_20 =>
              b8 (f_X8_settles 0 above below (upd (upd w_20 (0 : Int32).toNatClampNeg ((w_20 (0 : Int32).toNatClampNeg) + 1)) (60 : Int32).toNatClampNeg 0) up down fell) fun above_24 below_25 fallen_26 torn_27 w_28 up_29 down_30 fell_31 =>
              some ((w (0 : Int32).toNatClampNeg), above_24, below_25, fallen_26, torn_27, w_28, up_29, down_30, fell_31)
def f_X8_isPerson (x1 : Int32) (w : Nat → Int32) : Option (Int32) :=
  b1 (f_X8_in x1.toInt64 0 (((w (0 : Int32).toNatClampNeg) - 1).toInt64)) fun r_1 =>
  if r_1 = 0 ∨ r_1 = 1 then some r_1 else none
def f_X8_sideOf (x1 : Int32) (w : Nat → Int32) (up : Nat → Int32) (down : Nat → Int32) : Option (Int32 × Int32 × Int32 × (Nat → Int32) × (Nat → Int32)) :=
  b2 (f_X8_layPulls 0 w up down) fun up_1 down_2 =>
  b2 (f_X8_layPulled 0 x1 w up_1 down_2) fun above_3 below_4 =>
  if above_3 ≤ 0 then
    if 0 ≤ above_3 then
      some (0, above_3, below_4, up_1, down_2)
    else
      some (2, above_3, below_4, up_1, down_2)
  else
    some (1, above_3, below_4, up_1, down_2)
def f_X8_of (x1 : Int32) (x2 : Int32) (above : Int32) (below : Int32) (w : Nat → Int32) (up : Nat → Int32) (down : Nat → Int32) : Option (Int32 × Int32 × Int32 × (Nat → Int32) × (Nat → Int32)) :=
  b1 (f_X8_isPerson x1 w) fun r_1 =>
  if r_1 = 0 then
    some ((-1), above, below, up, down)
  else
    if x2 = 0 then
      if (4 + x1) < 0 ∨ 1142 ≤ (4 + x1).toNatClampNeg then none else
      some ((w (4 + x1).toNatClampNeg), above, below, up, down)
    else
      if x2 = 1 then
        if (12 + x1) < 0 ∨ 1142 ≤ (12 + x1).toNatClampNeg then none else
        some ((w (12 + x1).toNatClampNeg), above, below, up, down)
      else
        if x2 = 2 then
          if (20 + x1) < 0 ∨ 1142 ≤ (20 + x1).toNatClampNeg then none else
          some ((w (20 + x1).toNatClampNeg), above, below, up, down)
        else
          if x2 = 3 then
            b1 (f_X8_outOf 0 x1 w) fun r_10 =>
            some (r_10, above, below, up, down)
          else
            if x2 = 4 then
              b5 (f_X8_sideOf x1 w up down) fun r_12 above_13 below_14 up_15 down_16 =>
              some (r_12, above_13, below_14, up_15, down_16)
            else
              some ((-1), above, below, up, down)
def t_X8_nextLeft_L4 (x1 : Int32) (w : Nat → Int32) (k : Int32 → Option (Nat × Int32)) (x3 : Int32) : Option (Nat × Int32) :=
  if x3 < 0 then
    some (2, x3)
  else
    if ((x1 + 52) + x3) < 0 ∨ 1142 ≤ ((x1 + 52) + x3).toNatClampNeg then none else
    if (w ((x1 + 52) + x3).toNatClampNeg) = 1 then
      some (0, x3)
    else
      b1 (f_X8_holds x1 x3 w) fun r_4 =>
      if r_4 = 0 then
        k (x3 + (-1))
      else
        some (1, x3)
def f_X8_nextLeft_L4 (x1 : Int32) (w : Nat → Int32) : Nat → Int32 → Option (Nat × Int32) := lpf1 (t_X8_nextLeft_L4 x1 w)
def f_X8_nextLeft (x1 : Int32) (x2 : Int32) (w : Nat → Int32) : Option (Int32) :=
  b2 (f_X8_nextLeft_L4 x1 w FU (x2 - 1)) fun tag_6 x3_7 =>
  if tag_6 = 0 then
    some (-4)
  else
    if tag_6 = 1 then
      some x3_7
    else
      some (-4)
def f_X8_layPlace (x1 : Int32) (x2 : Int32) (w : Nat → Int32) (up : Nat → Int32) (down : Nat → Int32) : Option (Int32 × Int32 × (Nat → Int32) × (Nat → Int32)) :=
  if ((x1 + 28) + x2) < 0 ∨ 1142 ≤ ((x1 + 28) + x2).toNatClampNeg then none else
  b1 (f_X8_holds x1 x2 w) fun r_2 =>
  if r_2 = 0 then
    b1 (f_X8_nextLeft x1 x2 w) fun r_4 =>
    b1 (f_X8_nextRight x1 x2 w) fun r_5 =>
    b1 (
      if r_4 < 0 then
        if r_5 < 0 then
          some 0
        else
          if ((x1 + 28) + r_5) < 0 ∨ 1142 ≤ ((x1 + 28) + r_5).toNatClampNeg then none else
          some (w ((x1 + 28) + r_5).toNatClampNeg)
      else
        if ((x1 + 28) + r_4) < 0 ∨ 1142 ≤ ((x1 + 28) + r_4).toNatClampNeg then none else
        some (w ((x1 + 28) + r_4).toNatClampNeg)
     : Option (Int32)) fun z_10 =>
    b2 (f_X8_layPulls x1 w up down) fun up_14 down_15 =>
    if r_4 < 0 then
      some (z_10, 1, up_14, down_15)
    else
      if r_5 < 0 then
        some (z_10, 1, up_14, down_15)
      else
        if r_4 < 0 ∨ 8 ≤ r_4.toNatClampNeg then none else
        if (up_14 r_4.toNatClampNeg) ≤ 0 then
          some (z_10, 1, up_14, down_15)
        else
          b1 (f_X8_sumOf (x1 + 36) r_4 x2 w) fun r_20 =>
          b1 (f_X8_sumOf (x1 + 44) r_4 x2 w) fun r_21 =>
          some ((((z_10 + r_20) * (down_15 r_4.toNatClampNeg)) + ((up_14 r_4.toNatClampNeg) * r_21)), (down_15 r_4.toNatClampNeg), up_14, down_15)
  else
    some ((w ((x1 + 28) + x2).toNatClampNeg), 1, up, down)
def t_X8_divisor_L4  (k : Int32 → Int32 → Option (Int32)) (x2 : Int32) (x3 : Int32) : Option (Int32) :=
  if x3 = 0 then
    some x2
  else
    k x3 (x2 - x2 / x3 * x3)
def f_X8_divisor_L4  : Nat → Int32 → Int32 → Option (Int32) := lpf2 (t_X8_divisor_L4)
def f_X8_divisor (x0 : Int32) (x1 : Int32) : Option (Int32) :=
  b1 (f_X8_divisor_L4 FU x0 x1) fun x2_2 =>
  some x2_2
def f_X8_partOf (x0 : Int32) (x1 : Int32) (x2 : Int32) : Option (Int32) :=
  b1 (f_X8_divisor x0 x1) fun r_1 =>
  if x2 = 0 then
    if r_1 = 0 then none else
    some (x0 / r_1)
  else
    if r_1 = 0 then none else
    some (x1 / r_1)
def f_X8_place (x1 : Int32) (x2 : Int32) (above : Int32) (below : Int32) (w : Nat → Int32) (up : Nat → Int32) (down : Nat → Int32) : Option (Int32 × Int32 × Int32 × (Nat → Int32) × (Nat → Int32)) :=
  b1 (f_X8_isPerson x1 w) fun r_1 =>
  if r_1 = 0 then
    some ((-1), above, below, up, down)
  else
    b1 (f_X8_in x2.toInt64 0 1) fun r_3 =>
    if r_3 = 0 then
      some ((-1), above, below, up, down)
    else
      b4 (f_X8_layPlace 0 x1 w up down) fun above_5 below_6 up_7 down_8 =>
      b1 (f_X8_partOf above_5 below_6 x2) fun r_9 =>
      some (r_9, above_5, below_6, up_7, down_8)
def f_X8_pulled (x1 : Int32) (x2 : Int32) (above : Int32) (below : Int32) (w : Nat → Int32) (up : Nat → Int32) (down : Nat → Int32) : Option (Int32 × Int32 × Int32 × (Nat → Int32) × (Nat → Int32)) :=
  b1 (f_X8_isPerson x1 w) fun r_1 =>
  if r_1 = 0 then
    some ((-1), above, below, up, down)
  else
    b1 (f_X8_in x2.toInt64 0 1) fun r_3 =>
    if r_3 = 0 then
      some ((-1), above, below, up, down)
    else
      b2 (f_X8_layPulls 0 w up down) fun up_5 down_6 =>
      b2 (f_X8_layPulled 0 x1 w up_5 down_6) fun above_7 below_8 =>
      if 0 ≤ above_7 then
        b1 (f_X8_partOf above_7 below_8 x2) fun r_10 =>
        some (r_10, above_7, below_8, up_5, down_6)
      else
        b1 (f_X8_partOf (-above_7) below_8 x2) fun r_11 =>
        some (r_11, above_7, below_8, up_5, down_6)
def f_X8_isSeam (x1 : Int32) (w : Nat → Int32) : Option (Int32) :=
  b1 (f_X8_in x1.toInt64 0 (((w (0 : Int32).toNatClampNeg) - 2).toInt64)) fun r_1 =>
  if r_1 = 0 ∨ r_1 = 1 then some r_1 else none
def f_X8_pull (x1 : Int32) (x2 : Int32) (w : Nat → Int32) (up : Nat → Int32) (down : Nat → Int32) : Option (Int32 × (Nat → Int32) × (Nat → Int32)) :=
  b1 (f_X8_isSeam x1 w) fun r_1 =>
  if r_1 = 0 then
    some ((-1), up, down)
  else
    b1 (f_X8_in x2.toInt64 0 1) fun r_3 =>
    if r_3 = 0 then
      some ((-1), up, down)
    else
      b2 (f_X8_layPulls 0 w up down) fun up_5 down_6 =>
      if x1 < 0 ∨ 8 ≤ x1.toNatClampNeg then none else
      b1 (f_X8_partOf (up_5 x1.toNatClampNeg) (down_6 x1.toNatClampNeg) x2) fun r_8 =>
      some (r_8, up_5, down_6)
def f_X8_seam (x1 : Int32) (x2 : Int32) (w : Nat → Int32) : Option (Int32) :=
  b1 (f_X8_isSeam x1 w) fun r_1 =>
  if r_1 = 0 then
    some (-1)
  else
    b1 (f_X8_in x2.toInt64 0 2) fun r_3 =>
    if r_3 = 0 then
      some (-1)
    else
      if ((36 + (8 * x2)) + x1) < 0 ∨ 1142 ≤ ((36 + (8 * x2)) + x1).toNatClampNeg then none else
      some (w ((36 + (8 * x2)) + x1).toNatClampNeg)
def t_X8_holding_L4 (x1 : Int32) (w : Nat → Int32) (k : Int32 → Int32 → Option (Int32)) (x2 : Int32) (x3 : Int32) : Option (Int32) :=
  if (x1 + 0) < 0 ∨ 1142 ≤ (x1 + 0).toNatClampNeg then none else
  if (w (x1 + 0).toNatClampNeg) ≤ x3 then
    some x2
  else
    b1 (f_X8_holds x1 x3 w) fun r_3 =>
    if r_3 = 0 then
      k (x2 ||| 0) (x3 + 1)
    else
      k (x2 ||| (1 <<< (x3 &&& 31))) (x3 + 1)
def f_X8_holding_L4 (x1 : Int32) (w : Nat → Int32) : Nat → Int32 → Int32 → Option (Int32) := lpf2 (t_X8_holding_L4 x1 w)
def f_X8_holding (x1 : Int32) (w : Nat → Int32) : Option (Int32) :=
  b1 (f_X8_holding_L4 x1 w FU 0 0) fun x2_5 =>
  some x2_5
def t_X8_cutOnes_L4 (x1 : Int32) (w : Nat → Int32) (k : Int32 → Int32 → Option (Int32)) (x2 : Int32) (x3 : Int32) : Option (Int32) :=
  if (x1 + 0) < 0 ∨ 1142 ≤ (x1 + 0).toNatClampNeg then none else
  if (w (x1 + 0).toNatClampNeg) ≤ (x3 + 1) then
    some x2
  else
    if ((x1 + 52) + x3) < 0 ∨ 1142 ≤ ((x1 + 52) + x3).toNatClampNeg then none else
    nm (x2 ||| ((w ((x1 + 52) + x3).toNatClampNeg) <<< (x3 &&& 31))) fun y_4 =>
    k y_4 (x3 + 1)
def f_X8_cutOnes_L4 (x1 : Int32) (w : Nat → Int32) : Nat → Int32 → Int32 → Option (Int32) := lpf2 (t_X8_cutOnes_L4 x1 w)
def f_X8_cutOnes (x1 : Int32) (w : Nat → Int32) : Option (Int32) :=
  b1 (f_X8_cutOnes_L4 x1 w FU 0 0) fun x2_5 =>
  some x2_5
def t_X8_tautOnes_L9 (w : Nat → Int32) (up : Nat → Int32) (k : Int32 → Int32 → Option (Int32)) (x1 : Int32) (x2 : Int32) : Option (Int32) :=
  if (w (0 : Int32).toNatClampNeg) ≤ (x2 + 1) then
    some x1
  else
    if x2 < 0 ∨ 8 ≤ x2.toNatClampNeg then none else
    if (up x2.toNatClampNeg) ≤ 0 then
      k (x1 ||| 0) (x2 + 1)
    else
      k (x1 ||| (1 <<< (x2 &&& 31))) (x2 + 1)
def f_X8_tautOnes_L9 (w : Nat → Int32) (up : Nat → Int32) : Nat → Int32 → Int32 → Option (Int32) := lpf2 (t_X8_tautOnes_L9 w up)
def f_X8_tautOnes (w : Nat → Int32) (up : Nat → Int32) (down : Nat → Int32) : Option (Int32 × (Nat → Int32) × (Nat → Int32)) :=
  b2 (f_X8_layPulls 0 w up down) fun up_1 down_2 =>
  b1 (f_X8_tautOnes_L9 w up_1 FU 0 0) fun x1_6 =>
  some (x1_6, up_1, down_2)
def t_X8_greatest_L4 (x1 : Int32) (w : Nat → Int32) (up : Nat → Int32) (down : Nat → Int32) (k : Int32 → Int32 → Option (Int32)) (x2 : Int32) (x3 : Int32) : Option (Int32) :=
  if (x1 + 0) < 0 ∨ 1142 ≤ (x1 + 0).toNatClampNeg then none else
  if (w (x1 + 0).toNatClampNeg) ≤ (x3 + 1) then
    some x2
  else
    if x3 < 0 ∨ 8 ≤ x3.toNatClampNeg then none else
    if x2 < 0 ∨ 8 ≤ x2.toNatClampNeg then none else
    if ((up x3.toNatClampNeg) * (down x2.toNatClampNeg)) ≤ ((up x2.toNatClampNeg) * (down x3.toNatClampNeg)) then
      k x2 (x3 + 1)
    else
      k x3 (x3 + 1)
def f_X8_greatest_L4 (x1 : Int32) (w : Nat → Int32) (up : Nat → Int32) (down : Nat → Int32) : Nat → Int32 → Int32 → Option (Int32) := lpf2 (t_X8_greatest_L4 x1 w up down)
def f_X8_greatest (x1 : Int32) (w : Nat → Int32) (up : Nat → Int32) (down : Nat → Int32) : Option (Int32) :=
  b1 (f_X8_greatest_L4 x1 w up down FU 0 1) fun x2_6 =>
  some x2_6
def f_X8_greatestCut (x1 : Int32) (w : Nat → Int32) (up : Nat → Int32) (down : Nat → Int32) : Option (Int32 × (Nat → Int32) × (Nat → Int32)) :=
  b2 (f_X8_layPulls x1 w up down) fun up_1 down_2 =>
  b1 (f_X8_greatest x1 w up_1 down_2) fun r_3 =>
  if r_3 < 0 ∨ 8 ≤ r_3.toNatClampNeg then none else
  if (down_2 r_3.toNatClampNeg) = 0 then none else
  some (((up_1 r_3.toNatClampNeg) / (down_2 r_3.toNatClampNeg)), up_1, down_2)
def f_X8_count (x1 : Int32) (w : Nat → Int32) (up : Nat → Int32) (down : Nat → Int32) : Option (Int32 × (Nat → Int32) × (Nat → Int32)) :=
  if x1 = 0 then
    some ((w (0 : Int32).toNatClampNeg), up, down)
  else
    if x1 = 1 then
      b1 (f_X8_holding 0 w) fun r_3 =>
      some (r_3, up, down)
    else
      if x1 = 2 then
        b1 (f_X8_cutOnes 0 w) fun r_5 =>
        some (r_5, up, down)
      else
        if x1 = 3 then
          b3 (f_X8_tautOnes w up down) fun r_7 up_8 down_9 =>
          some (r_7, up_8, down_9)
        else
          if x1 = 4 then
            some ((w (2 : Int32).toNatClampNeg), up, down)
          else
            if x1 = 5 then
              some ((w (1 : Int32).toNatClampNeg), up, down)
            else
              if x1 = 6 then
                b3 (f_X8_greatestCut 0 w up down) fun r_13 up_14 down_15 =>
                some (r_13, up_14, down_15)
              else
                if x1 = 7 then
                  some ((w (60 : Int32).toNatClampNeg), up, down)
                else
                  some ((-1), up, down)
def f_X8_mayGo (x1 : Int32) (x2 : Int32) (x3 : Int32) (w : Nat → Int32) : Option (Int32) :=
  b1 (f_X8_holds x1 x2 w) fun r_1 =>
  if r_1 = 0 then
    some 0
  else
    if ((x1 + 28) + x2) < 0 ∨ 1142 ≤ ((x1 + 28) + x2).toNatClampNeg then none else
    b1 (f_X8_in (((w ((x1 + 28) + x2).toNatClampNeg) + x3).toInt64) 0 99) fun r_4 =>
    if r_4 = 0 then
      some 0
    else
      some 1
def t_X8_minds_L14  (k : Int32 → (Nat → Int32) → Option ((Nat → Int32))) (x1 : Int32) (w : Nat → Int32) : Option ((Nat → Int32)) :=
  if 420 ≤ x1 then
    some w
  else
    if ((61 + x1) + 60) < 0 ∨ 1142 ≤ ((61 + x1) + 60).toNatClampNeg then none else
    if (61 + x1) < 0 ∨ 1142 ≤ (61 + x1).toNatClampNeg then none else
    k (x1 + 1) (upd w (61 + x1).toNatClampNeg (w ((61 + x1) + 60).toNatClampNeg))
def f_X8_minds_L14  : Nat → Int32 → (Nat → Int32) → Option ((Nat → Int32)) := lpf2 (t_X8_minds_L14)
def t_X8_minds_L61  (k : Int32 → (Nat → Int32) → Option ((Nat → Int32))) (x1 : Int32) (w : Nat → Int32) : Option ((Nat → Int32)) :=
  if 60 ≤ x1 then
    some w
  else
    if x1 < 0 ∨ 1142 ≤ x1.toNatClampNeg then none else
    if ((61 + (60 * (w (60 : Int32).toNatClampNeg))) + x1) < 0 ∨ 1142 ≤ ((61 + (60 * (w (60 : Int32).toNatClampNeg))) + x1).toNatClampNeg then none else
    k (x1 + 1) (upd w ((61 + (60 * (w (60 : Int32).toNatClampNeg))) + x1).toNatClampNeg (w x1.toNatClampNeg))
def f_X8_minds_L61  : Nat → Int32 → (Nat → Int32) → Option ((Nat → Int32)) := lpf2 (t_X8_minds_L61)
def f_X8_minds (w : Nat → Int32) : Option ((Nat → Int32)) :=
  b1 (
    if (w (60 : Int32).toNatClampNeg) = 8 then
      b1 (f_X8_minds_L14 FU 0 w) fun w_10 =>
      some (upd w_10 (60 : Int32).toNatClampNeg ((w_10 (60 : Int32).toNatClampNeg) - 1))
    else
      some w
   : Option ((Nat → Int32))) fun w_6 =>
  b1 (f_X8_minds_L61 FU 0 w_6) fun w_14 =>
  some (upd w_14 (60 : Int32).toNatClampNeg ((w_14 (60 : Int32).toNatClampNeg) + 1))
def f_X8_go (x1 : Int32) (x2 : Int32) (above : Int32) (below : Int32) (fallen : Int32) (torn : Int32) (w : Nat → Int32) (up : Nat → Int32) (down : Nat → Int32) (fell : Nat → Int32) : Option (Int32 × Int32 × Int32 × Int32 × Int32 × (Nat → Int32) × (Nat → Int32) × (Nat → Int32) × (Nat → Int32)) :=
  b1 (f_X8_isPerson x1 w) fun r_1 =>
  if r_1 = 0 then
    some ((-1), above, below, fallen, torn, w, up, down, fell)
  else
    b1 (f_X8_in x2.toInt64 (-99) 99) fun r_3 =>
    if r_3 = 0 then
      some ((-1), above, below, fallen, torn, w, up, down, fell)
    else
      if x2 = 0 then
        some ((-1), above, below, fallen, torn, w, up, down, fell)
      else
        b1 (f_X8_mayGo 0 x1 x2 w) fun r_6 =>
        if r_6 = 0 then
          some ((-2), above, below, fallen, torn, w, up, down, fell)
        else
          b1 (f_X8_minds w) fun w_8 =>
          if (28 + x1) < 0 ∨ 1142 ≤ (28 + x1).toNatClampNeg then none else
          b8 (f_X8_settles 0 above below (upd w_8 (28 + x1).toNatClampNeg ((w_8 (28 + x1).toNatClampNeg) + x2)) up down fell) fun above_10 below_11 fallen_12 torn_13 w_14 up_15 down_16 fell_17 =>
          some (fallen_12, above_10, below_11, fallen_12, torn_13, w_14, up_15, down_16, fell_17)
def f_X8_let (x1 : Int32) (above : Int32) (below : Int32) (fallen : Int32) (torn : Int32) (w : Nat → Int32) (up : Nat → Int32) (down : Nat → Int32) (fell : Nat → Int32) : Option (Int32 × Int32 × Int32 × Int32 × Int32 × (Nat → Int32) × (Nat → Int32) × (Nat → Int32) × (Nat → Int32)) :=
  b1 (f_X8_isPerson x1 w) fun r_1 =>
  if r_1 = 0 then
    some ((-1), above, below, fallen, torn, w, up, down, fell)
  else
    b1 (f_X8_holds 0 x1 w) fun r_3 =>
    if r_3 = 0 then
      some ((-2), above, below, fallen, torn, w, up, down, fell)
    else
      b1 (f_X8_minds w) fun w_5 =>
      if (20 + x1) < 0 ∨ 1142 ≤ (20 + x1).toNatClampNeg then none else
      b8 (f_X8_settles 0 above below (upd w_5 (20 + x1).toNatClampNeg 0) up down fell) fun above_7 below_8 fallen_9 torn_10 w_11 up_12 down_13 fell_14 =>
      some (fallen_9, above_7, below_8, fallen_9, torn_10, w_11, up_12, down_13, fell_14)
def f_X8_takesHold (x1 : Int32) (x2 : Int32) (w : Nat → Int32) (up : Nat → Int32) (down : Nat → Int32) : Option (Int32 × Int32 × (Nat → Int32) × (Nat → Int32) × (Nat → Int32)) :=
  b4 (f_X8_layPlace x1 x2 w up down) fun above_1 below_2 up_3 down_4 =>
  if below_2 = 0 then none else
  b1 (
    if (above_1 / below_2) ≤ 99 then
      some (above_1 / below_2)
    else
      some 99
   : Option (Int32)) fun z_7 =>
  if ((x1 + 28) + x2) < 0 ∨ 1142 ≤ ((x1 + 28) + x2).toNatClampNeg then none else
  if ((x1 + 20) + x2) < 0 ∨ 1142 ≤ ((x1 + 20) + x2).toNatClampNeg then none else
  some (above_1, below_2, upd (upd w ((x1 + 28) + x2).toNatClampNeg z_7) ((x1 + 20) + x2).toNatClampNeg 1, up_3, down_4)
def f_X8_hold (x1 : Int32) (above : Int32) (below : Int32) (fallen : Int32) (torn : Int32) (w : Nat → Int32) (up : Nat → Int32) (down : Nat → Int32) (fell : Nat → Int32) : Option (Int32 × Int32 × Int32 × Int32 × Int32 × (Nat → Int32) × (Nat → Int32) × (Nat → Int32) × (Nat → Int32)) :=
  b1 (f_X8_isPerson x1 w) fun r_1 =>
  if r_1 = 0 then
    some ((-1), above, below, fallen, torn, w, up, down, fell)
  else
    b1 (f_X8_holds 0 x1 w) fun r_3 =>
    if r_3 = 0 then
      b1 (f_X8_minds w) fun w_5 =>
      b5 (f_X8_takesHold 0 x1 w_5 up down) fun above_6 below_7 w_8 up_9 down_10 =>
      b8 (f_X8_settles 0 above_6 below_7 w_8 up_9 down_10 fell) fun above_11 below_12 fallen_13 torn_14 w_15 up_16 down_17 fell_18 =>
      some (fallen_13, above_11, below_12, fallen_13, torn_14, w_15, up_16, down_17, fell_18)
    else
      some ((-2), above, below, fallen, torn, w, up, down, fell)
def f_X8_sew (x1 : Int32) (above : Int32) (below : Int32) (fallen : Int32) (torn : Int32) (w : Nat → Int32) (up : Nat → Int32) (down : Nat → Int32) (fell : Nat → Int32) : Option (Int32 × Int32 × Int32 × Int32 × Int32 × (Nat → Int32) × (Nat → Int32) × (Nat → Int32) × (Nat → Int32)) :=
  b1 (f_X8_isSeam x1 w) fun r_1 =>
  if r_1 = 0 then
    some ((-1), above, below, fallen, torn, w, up, down, fell)
  else
    if (52 + x1) < 0 ∨ 1142 ≤ (52 + x1).toNatClampNeg then none else
    if (w (52 + x1).toNatClampNeg) = 0 then
      some ((-2), above, below, fallen, torn, w, up, down, fell)
    else
      b1 (f_X8_minds w) fun w_5 =>
      b8 (f_X8_settles 0 above below (upd w_5 (52 + x1).toNatClampNeg 0) up down fell) fun above_6 below_7 fallen_8 torn_9 w_10 up_11 down_12 fell_13 =>
      some (fallen_8, above_6, below_7, fallen_8, torn_9, w_10, up_11, down_12, fell_13)
def f_X8_bears (x1 : Int32) (above : Int32) (below : Int32) (fallen : Int32) (torn : Int32) (w : Nat → Int32) (up : Nat → Int32) (down : Nat → Int32) (fell : Nat → Int32) : Option (Int32 × Int32 × Int32 × Int32 × Int32 × (Nat → Int32) × (Nat → Int32) × (Nat → Int32) × (Nat → Int32)) :=
  b1 (f_X8_in x1.toInt64 1 60) fun r_1 =>
  if r_1 = 0 then
    some ((-1), above, below, fallen, torn, w, up, down, fell)
  else
    if (w (1 : Int32).toNatClampNeg) = x1 then
      some ((-2), above, below, fallen, torn, w, up, down, fell)
    else
      b1 (f_X8_minds w) fun w_4 =>
      b8 (f_X8_settles 0 above below (upd w_4 (1 : Int32).toNatClampNeg x1) up down fell) fun above_5 below_6 fallen_7 torn_8 w_9 up_10 down_11 fell_12 =>
      some ((w (1 : Int32).toNatClampNeg), above_5, below_6, fallen_7, torn_8, w_9, up_10, down_11, fell_12)
def f_X8_hourOf (x1 : Int32) (above : Int32) (below : Int32) (w : Nat → Int32) (up : Nat → Int32) (down : Nat → Int32) (fell : Nat → Int32) : Option (Int32 × Int32 × Int32 × Int32 × (Nat → Int32) × (Nat → Int32) × (Nat → Int32) × (Nat → Int32)) :=
  if (x1 + 2) < 0 ∨ 1142 ≤ (x1 + 2).toNatClampNeg then none else
  b8 (f_X8_settles x1 above below (upd w (x1 + 2).toNatClampNeg (((w (x1 + 2).toNatClampNeg) + 1) - ((w (x1 + 2).toNatClampNeg) + 1) / 24 * 24)) up down fell) fun above_2 below_3 fallen_4 torn_5 w_6 up_7 down_8 fell_9 =>
  some (above_2, below_3, fallen_4, torn_5, w_6, up_7, down_8, fell_9)
def t_X8_hours_L18 (x1 : Int32) (k : Int32 → Int32 → Int32 → Int32 → Int32 → Int32 → (Nat → Int32) → (Nat → Int32) → (Nat → Int32) → (Nat → Int32) → Option (Int32 × Int32 × Int32 × Int32 × Int32 × (Nat → Int32) × (Nat → Int32) × (Nat → Int32) × (Nat → Int32))) (x2 : Int32) (x3 : Int32) (above : Int32) (below : Int32) (fallen : Int32) (torn : Int32) (w : Nat → Int32) (up : Nat → Int32) (down : Nat → Int32) (fell : Nat → Int32) : Option (Int32 × Int32 × Int32 × Int32 × Int32 × (Nat → Int32) × (Nat → Int32) × (Nat → Int32) × (Nat → Int32)) :=
  if x1 ≤ x3 then
    some (x2, above, below, fallen, torn, w, up, down, fell)
  else
    b1 (f_X8_minds w) fun w_4 =>
    b8 (f_X8_hourOf 0 above below w_4 up down fell) fun above_5 below_6 fallen_7 torn_8 w_9 up_10 down_11 fell_12 =>
    k (x2 + fallen_7) (x3 + 1) above_5 below_6 fallen_7 torn_8 w_9 up_10 down_11 fell_12
def f_X8_hours_L18 (x1 : Int32) : Nat → Int32 → Int32 → Int32 → Int32 → Int32 → Int32 → (Nat → Int32) → (Nat → Int32) → (Nat → Int32) → (Nat → Int32) → Option (Int32 × Int32 × Int32 × Int32 × Int32 × (Nat → Int32) × (Nat → Int32) × (Nat → Int32) × (Nat → Int32)) := lpf10 (t_X8_hours_L18 x1)
def f_X8_hours (x1 : Int32) (above : Int32) (below : Int32) (fallen : Int32) (torn : Int32) (w : Nat → Int32) (up : Nat → Int32) (down : Nat → Int32) (fell : Nat → Int32) : Option (Int32 × Int32 × Int32 × Int32 × Int32 × (Nat → Int32) × (Nat → Int32) × (Nat → Int32) × (Nat → Int32)) :=
  b1 (f_X8_in x1.toInt64 1 24) fun r_1 =>
  if r_1 = 0 then
    some ((-1), above, below, fallen, torn, w, up, down, fell)
  else
    b9 (f_X8_hours_L18 x1 FU 0 0 above below fallen torn w up down fell) fun x2_13 above_14 below_15 fallen_16 torn_17 w_18 up_19 down_20 fell_21 =>
    some (x2_13, above_14, below_15, fallen_16, torn_17, w_18, up_19, down_20, fell_21)
def f_X8_springsOnce (above : Int32) (below : Int32) (fallen : Int32) (torn : Int32) (w : Nat → Int32) (up : Nat → Int32) (down : Nat → Int32) (fell : Nat → Int32) : Option (Int32 × Int32 × Int32 × Int32 × (Nat → Int32) × (Nat → Int32) × (Nat → Int32) × (Nat → Int32)) :=
  nm ((((w (3 : Int32).toNatClampNeg) * 1103515245) + 12345) &&& 2147483647) fun y_1 =>
  if ((upd w (3 : Int32).toNatClampNeg y_1) (0 : Int32).toNatClampNeg) ≤ 0 then
    some (above, below, fallen, torn, upd w (3 : Int32).toNatClampNeg y_1, up, down, fell)
  else
    if ((upd w (3 : Int32).toNatClampNeg y_1) (0 : Int32).toNatClampNeg) = 0 then none else
    nm ((y_1 / 65536) - (y_1 / 65536) / ((upd w (3 : Int32).toNatClampNeg y_1) (0 : Int32).toNatClampNeg) * ((upd w (3 : Int32).toNatClampNeg y_1) (0 : Int32).toNatClampNeg)) fun y_4 =>
    b1 (
      if ((y_1 >>> (9 &&& 31)) &&& 1) = 1 then
        some 1
      else
        some (-1)
     : Option (Int32)) fun z_6 =>
    b1 (f_X8_holds 0 y_4 (upd w (3 : Int32).toNatClampNeg y_1)) fun r_7 =>
    if r_7 = 0 then
      b5 (f_X8_takesHold 0 y_4 (upd w (3 : Int32).toNatClampNeg y_1) up down) fun above_9 below_10 w_11 up_12 down_13 =>
      b8 (f_X8_settles 0 above_9 below_10 w_11 up_12 down_13 fell) fun above_14 below_15 fallen_16 torn_17 w_18 up_19 down_20 fell_21 =>
      some (above_14, below_15, fallen_16, torn_17, w_18, up_19, down_20, fell_21)
    else
      b1 (f_X8_mayGo 0 y_4 z_6 (upd w (3 : Int32).toNatClampNeg y_1)) fun r_22 =>
      if r_22 = 0 then
        b8 (f_X8_settles 0 above below (upd w (3 : Int32).toNatClampNeg y_1) up down fell) fun above_24 below_25 fallen_26 torn_27 w_28 up_29 down_30 fell_31 =>
        some (above_24, below_25, fallen_26, torn_27, w_28, up_29, down_30, fell_31)
      else
        if (28 + y_4) < 0 ∨ 1142 ≤ (28 + y_4).toNatClampNeg then none else
        b8 (f_X8_settles 0 above below (upd (upd w (3 : Int32).toNatClampNeg y_1) (28 + y_4).toNatClampNeg (((upd w (3 : Int32).toNatClampNeg y_1) (28 + y_4).toNatClampNeg) + z_6)) up down fell) fun above_33 below_34 fallen_35 torn_36 w_37 up_38 down_39 fell_40 =>
        some (above_33, below_34, fallen_35, torn_36, w_37, up_38, down_39, fell_40)
def t_X8_ones_L4 (x0 : Int32) (k : Int32 → Int32 → Option (Int32)) (x1 : Int32) (x2 : Int32) : Option (Int32) :=
  if 8 ≤ x2 then
    some x1
  else
    nm (x1 + ((x0 >>> (x2 &&& 31)) &&& 1)) fun y_2 =>
    k y_2 (x2 + 1)
def f_X8_ones_L4 (x0 : Int32) : Nat → Int32 → Int32 → Option (Int32) := lpf2 (t_X8_ones_L4 x0)
def f_X8_ones (x0 : Int32) : Option (Int32) :=
  b1 (f_X8_ones_L4 x0 FU 0 0) fun x1_3 =>
  some x1_3
def t_X8_springs_L16 (x1 : Int32) (k : Int32 → Int32 → Int32 → Int32 → Int32 → (Nat → Int32) → (Nat → Int32) → (Nat → Int32) → (Nat → Int32) → Option (Int32 × Int32 × Int32 × Int32 × (Nat → Int32) × (Nat → Int32) × (Nat → Int32) × (Nat → Int32))) (x2 : Int32) (above : Int32) (below : Int32) (fallen : Int32) (torn : Int32) (w : Nat → Int32) (up : Nat → Int32) (down : Nat → Int32) (fell : Nat → Int32) : Option (Int32 × Int32 × Int32 × Int32 × (Nat → Int32) × (Nat → Int32) × (Nat → Int32) × (Nat → Int32)) :=
  if x1 ≤ x2 then
    some (above, below, fallen, torn, w, up, down, fell)
  else
    b1 (f_X8_minds w) fun w_4 =>
    b8 (f_X8_springsOnce above below fallen torn w_4 up down fell) fun above_5 below_6 fallen_7 torn_8 w_9 up_10 down_11 fell_12 =>
    k (x2 + 1) above_5 below_6 fallen_7 torn_8 w_9 up_10 down_11 fell_12
def f_X8_springs_L16 (x1 : Int32) : Nat → Int32 → Int32 → Int32 → Int32 → Int32 → (Nat → Int32) → (Nat → Int32) → (Nat → Int32) → (Nat → Int32) → Option (Int32 × Int32 × Int32 × Int32 × (Nat → Int32) × (Nat → Int32) × (Nat → Int32) × (Nat → Int32)) := lpf9 (t_X8_springs_L16 x1)
def f_X8_springs (x1 : Int32) (above : Int32) (below : Int32) (fallen : Int32) (torn : Int32) (w : Nat → Int32) (up : Nat → Int32) (down : Nat → Int32) (fell : Nat → Int32) : Option (Int32 × Int32 × Int32 × Int32 × Int32 × (Nat → Int32) × (Nat → Int32) × (Nat → Int32) × (Nat → Int32)) :=
  b1 (f_X8_in x1.toInt64 1 40) fun r_1 =>
  if r_1 = 0 then
    some ((-1), above, below, fallen, torn, w, up, down, fell)
  else
    b8 (f_X8_springs_L16 x1 FU 0 above below fallen torn w up down fell) fun above_13 below_14 fallen_15 torn_16 w_17 up_18 down_19 fell_20 =>
    b1 (f_X8_holding 0 w_17) fun r_21 =>
    b1 (f_X8_ones r_21) fun r_22 =>
    some (r_22, above_13, below_14, fallen_15, torn_16, w_17, up_18, down_19, fell_20)
def t_X8_undo_L26  (k : Int32 → (Nat → Int32) → Option ((Nat → Int32))) (x1 : Int32) (w : Nat → Int32) : Option ((Nat → Int32)) :=
  if 60 ≤ x1 then
    some w
  else
    if ((61 + (60 * (w (60 : Int32).toNatClampNeg))) + x1) < 0 ∨ 1142 ≤ ((61 + (60 * (w (60 : Int32).toNatClampNeg))) + x1).toNatClampNeg then none else
    if x1 < 0 ∨ 1142 ≤ x1.toNatClampNeg then none else
    k (x1 + 1) (upd w x1.toNatClampNeg (w ((61 + (60 * (w (60 : Int32).toNatClampNeg))) + x1).toNatClampNeg))
def f_X8_undo_L26  : Nat → Int32 → (Nat → Int32) → Option ((Nat → Int32)) := lpf2 (t_X8_undo_L26)
def f_X8_undo (w : Nat → Int32) : Option (Int32 × (Nat → Int32)) :=
  if (w (60 : Int32).toNatClampNeg) = 0 then
    some ((-4), w)
  else
    b1 (f_X8_undo_L26 FU 0 (upd w (60 : Int32).toNatClampNeg ((w (60 : Int32).toNatClampNeg) - 1))) fun w_5 =>
    some ((w_5 (60 : Int32).toNatClampNeg), w_5)
def f_X8_seed (x1 : Int32) (w : Nat → Int32) : Option (Int32 × (Nat → Int32)) :=
  if 0 ≤ x1 then
    some ((w (3 : Int32).toNatClampNeg), upd w (3 : Int32).toNatClampNeg x1)
  else
    some ((-1), w)
def t_X8_tries_L2  (k : Int32 → (Nat → Int32) → Option ((Nat → Int32))) (x1 : Int32) (w : Nat → Int32) : Option ((Nat → Int32)) :=
  if 60 ≤ x1 then
    some w
  else
    if x1 < 0 ∨ 1142 ≤ x1.toNatClampNeg then none else
    if (1082 + x1) < 0 ∨ 1142 ≤ (1082 + x1).toNatClampNeg then none else
    k (x1 + 1) (upd w (1082 + x1).toNatClampNeg (w x1.toNatClampNeg))
def f_X8_tries_L2  : Nat → Int32 → (Nat → Int32) → Option ((Nat → Int32)) := lpf2 (t_X8_tries_L2)
def f_X8_tries (w : Nat → Int32) : Option ((Nat → Int32)) :=
  b1 (f_X8_tries_L2 FU 0 w) fun w_4 =>
  some w_4
def t_X8_far_L45 (x1 : Int32) (x3 : Int32) (k : Int32 → Int32 → Int32 → Int32 → Int32 → (Nat → Int32) → (Nat → Int32) → (Nat → Int32) → (Nat → Int32) → Option (Nat × Int32 × Int32 × Int32 × Int32 × Int32 × (Nat → Int32) × (Nat → Int32) × (Nat → Int32) × (Nat → Int32))) (x4 : Int32) (above : Int32) (below : Int32) (fallen : Int32) (torn : Int32) (w : Nat → Int32) (up : Nat → Int32) (down : Nat → Int32) (fell : Nat → Int32) : Option (Nat × Int32 × Int32 × Int32 × Int32 × Int32 × (Nat → Int32) × (Nat → Int32) × (Nat → Int32) × (Nat → Int32)) :=
  b1 (f_X8_mayGo 0 x1 (x3 * (x4 + 1)) w) fun r_9 =>
  if r_9 = 0 then
    some (1, x4, above, below, fallen, torn, w, up, down, fell)
  else
    b1 (f_X8_tries w) fun w_11 =>
    if (1110 + x1) < 0 ∨ 1142 ≤ (1110 + x1).toNatClampNeg then none else
    b8 (f_X8_settles 1082 above below (upd w_11 (1110 + x1).toNatClampNeg ((w_11 (1110 + x1).toNatClampNeg) + (x3 * (x4 + 1)))) up down fell) fun above_13 below_14 fallen_15 torn_16 w_17 up_18 down_19 fell_20 =>
    if (fallen_15 + torn_16) ≤ 0 then
      k (x4 + 1) above_13 below_14 fallen_15 torn_16 w_17 up_18 down_19 fell_20
    else
      some (0, x4, above_13, below_14, fallen_15, torn_16, w_17, up_18, down_19, fell_20)
def f_X8_far_L45 (x1 : Int32) (x3 : Int32) : Nat → Int32 → Int32 → Int32 → Int32 → Int32 → (Nat → Int32) → (Nat → Int32) → (Nat → Int32) → (Nat → Int32) → Option (Nat × Int32 × Int32 × Int32 × Int32 × Int32 × (Nat → Int32) × (Nat → Int32) × (Nat → Int32) × (Nat → Int32)) := lpf9 (t_X8_far_L45 x1 x3)
def f_X8_far (x1 : Int32) (x2 : Int32) (above : Int32) (below : Int32) (fallen : Int32) (torn : Int32) (w : Nat → Int32) (up : Nat → Int32) (down : Nat → Int32) (fell : Nat → Int32) : Option (Int32 × Int32 × Int32 × Int32 × Int32 × (Nat → Int32) × (Nat → Int32) × (Nat → Int32) × (Nat → Int32)) :=
  b1 (f_X8_isPerson x1 w) fun r_1 =>
  if r_1 = 0 then
    some ((-1), above, below, fallen, torn, w, up, down, fell)
  else
    b1 (f_X8_in x2.toInt64 0 1) fun r_3 =>
    if r_3 = 0 then
      some ((-1), above, below, fallen, torn, w, up, down, fell)
    else
      b1 (f_X8_holds 0 x1 w) fun r_5 =>
      if r_5 = 0 then
        some ((-2), above, below, fallen, torn, w, up, down, fell)
      else
        b1 (
          if x2 = 0 then
            some (-1)
          else
            some 1
         : Option (Int32)) fun z_8 =>
        b10 (f_X8_far_L45 x1 z_8 FU 0 above below fallen torn w up down fell) fun tag_22 x4_23 above_24 below_25 fallen_26 torn_27 w_28 up_29 down_30 fell_31 =>
        if tag_22 = 0 then
          some (x4_23, above_24, below_25, fallen_26, torn_27, w_28, up_29, down_30, fell_31)
        else
          some (x4_23, above_24, below_25, fallen_26, torn_27, w_28, up_29, down_30, fell_31)
def f_X8_fall (x1 : Int32) (x2 : Int32) (above : Int32) (below : Int32) (fallen : Int32) (torn : Int32) (w : Nat → Int32) (up : Nat → Int32) (down : Nat → Int32) (fell : Nat → Int32) : Option (Int32 × Int32 × Int32 × Int32 × Int32 × (Nat → Int32) × (Nat → Int32) × (Nat → Int32) × (Nat → Int32)) :=
  b1 (f_X8_isPerson x1 w) fun r_1 =>
  if r_1 = 0 then
    some ((-1), above, below, fallen, torn, w, up, down, fell)
  else
    if (-1) ≤ x2 then
      b1 (f_X8_holds 0 x1 w) fun r_4 =>
      if r_4 = 0 then
        some ((-2), above, below, fallen, torn, w, up, down, fell)
      else
        b1 (f_X8_tries w) fun w_6 =>
        if (1102 + x1) < 0 ∨ 1142 ≤ (1102 + x1).toNatClampNeg then none else
        b8 (f_X8_settles 1082 above below (upd w_6 (1102 + x1).toNatClampNeg 0) up down fell) fun above_8 below_9 fallen_10 torn_11 w_12 up_13 down_14 fell_15 =>
        if x2 = (-1) then
          some (fallen_10, above_8, below_9, fallen_10, torn_11, w_12, up_13, down_14, fell_15)
        else
          if fallen_10 ≤ x2 then
            some ((-4), above_8, below_9, fallen_10, torn_11, w_12, up_13, down_14, fell_15)
          else
            if x2 < 0 ∨ 8 ≤ x2.toNatClampNeg then none else
            some ((fell_15 x2.toNatClampNeg), above_8, below_9, fallen_10, torn_11, w_12, up_13, down_14, fell_15)
    else
      some ((-1), above, below, fallen, torn, w, up, down, fell)
def t_X8_tie_L33 (x1 : Int32) (k : Int32 → Int32 → Int32 → Int32 → (Nat → Int32) → (Nat → Int32) → (Nat → Int32) → Option (Int32 × Int32 × Int32 × (Nat → Int32) × (Nat → Int32) × (Nat → Int32))) (x3 : Int32) (x4 : Int32) (x5 : Int32) (x6 : Int32) (w : Nat → Int32) (up : Nat → Int32) (down : Nat → Int32) : Option (Int32 × Int32 × Int32 × (Nat → Int32) × (Nat → Int32) × (Nat → Int32)) :=
  if 99 < x6 then
    some (x3, x4, x5, w, up, down)
  else
    b1 (f_X8_tries w) fun w_6 =>
    if (1102 + x1) < 0 ∨ 1142 ≤ (1102 + x1).toNatClampNeg then none else
    if (1110 + x1) < 0 ∨ 1142 ≤ (1110 + x1).toNatClampNeg then none else
    b2 (f_X8_layPulls 1082 (upd (upd w_6 (1102 + x1).toNatClampNeg 1) (1110 + x1).toNatClampNeg x6) up down) fun up_9 down_10 =>
    b1 (f_X8_greatest 1082 (upd (upd w_6 (1102 + x1).toNatClampNeg 1) (1110 + x1).toNatClampNeg x6) up_9 down_10) fun r_11 =>
    b1 (
      if x5 = 0 then
        some 1
      else
        if r_11 < 0 ∨ 8 ≤ r_11.toNatClampNeg then none else
        if (x4 * (down_10 r_11.toNatClampNeg)) ≤ ((up_9 r_11.toNatClampNeg) * x5) then
          some 0
        else
          some 1
     : Option (Int32)) fun z_15 =>
    b1 (
      if z_15 = 0 then
        some x3
      else
        some x6
     : Option (Int32)) fun z_19 =>
    b1 (
      if z_15 = 0 then
        some x4
      else
        if r_11 < 0 ∨ 8 ≤ r_11.toNatClampNeg then none else
        some (up_9 r_11.toNatClampNeg)
     : Option (Int32)) fun z_22 =>
    if z_15 = 0 then
      k z_19 z_22 x5 (x6 + 1) (upd (upd w_6 (1102 + x1).toNatClampNeg 1) (1110 + x1).toNatClampNeg x6) up_9 down_10
    else
      if r_11 < 0 ∨ 8 ≤ r_11.toNatClampNeg then none else
      k z_19 z_22 (down_10 r_11.toNatClampNeg) (x6 + 1) (upd (upd w_6 (1102 + x1).toNatClampNeg 1) (1110 + x1).toNatClampNeg x6) up_9 down_10
def f_X8_tie_L33 (x1 : Int32) : Nat → Int32 → Int32 → Int32 → Int32 → (Nat → Int32) → (Nat → Int32) → (Nat → Int32) → Option (Int32 × Int32 × Int32 × (Nat → Int32) × (Nat → Int32) × (Nat → Int32)) := lpf7 (t_X8_tie_L33 x1)
def f_X8_tie (x1 : Int32) (x2 : Int32) (w : Nat → Int32) (up : Nat → Int32) (down : Nat → Int32) : Option (Int32 × (Nat → Int32) × (Nat → Int32) × (Nat → Int32)) :=
  b1 (f_X8_isPerson x1 w) fun r_1 =>
  if r_1 = 0 then
    some ((-1), w, up, down)
  else
    b1 (f_X8_in x2.toInt64 0 2) fun r_3 =>
    if r_3 = 0 then
      some ((-1), w, up, down)
    else
      b6 (f_X8_tie_L33 x1 FU 0 1 0 0 w up down) fun x3_26 x4_27 x5_28 w_29 up_30 down_31 =>
      if x2 = 0 then
        some (x3_26, w_29, up_30, down_31)
      else
        b1 (f_X8_partOf x4_27 x5_28 (x2 - 1)) fun r_33 =>
        some (r_33, w_29, up_30, down_31)
def t_X8_when_L6  (k : Int32 → Int32 → Int32 → Int32 → Int32 → (Nat → Int32) → (Nat → Int32) → (Nat → Int32) → (Nat → Int32) → Option (Nat × Int32 × Int32 × Int32 × Int32 × Int32 × (Nat → Int32) × (Nat → Int32) × (Nat → Int32) × (Nat → Int32))) (x1 : Int32) (above : Int32) (below : Int32) (fallen : Int32) (torn : Int32) (w : Nat → Int32) (up : Nat → Int32) (down : Nat → Int32) (fell : Nat → Int32) : Option (Nat × Int32 × Int32 × Int32 × Int32 × Int32 × (Nat → Int32) × (Nat → Int32) × (Nat → Int32) × (Nat → Int32)) :=
  if 24 < x1 then
    some (1, x1, above, below, fallen, torn, w, up, down, fell)
  else
    b8 (f_X8_hourOf 1082 above below w up down fell) fun above_3 below_4 fallen_5 torn_6 w_7 up_8 down_9 fell_10 =>
    if (fallen_5 + torn_6) ≤ 0 then
      k (x1 + 1) above_3 below_4 fallen_5 torn_6 w_7 up_8 down_9 fell_10
    else
      some (0, x1, above_3, below_4, fallen_5, torn_6, w_7, up_8, down_9, fell_10)
def f_X8_when_L6  : Nat → Int32 → Int32 → Int32 → Int32 → Int32 → (Nat → Int32) → (Nat → Int32) → (Nat → Int32) → (Nat → Int32) → Option (Nat × Int32 × Int32 × Int32 × Int32 × Int32 × (Nat → Int32) × (Nat → Int32) × (Nat → Int32) × (Nat → Int32)) := lpf9 (t_X8_when_L6)
def f_X8_when (above : Int32) (below : Int32) (fallen : Int32) (torn : Int32) (w : Nat → Int32) (up : Nat → Int32) (down : Nat → Int32) (fell : Nat → Int32) : Option (Int32 × Int32 × Int32 × Int32 × Int32 × (Nat → Int32) × (Nat → Int32) × (Nat → Int32) × (Nat → Int32)) :=
  b1 (f_X8_tries w) fun w_1 =>
  b10 (f_X8_when_L6 FU 1 above below fallen torn w_1 up down fell) fun tag_12 x1_13 above_14 below_15 fallen_16 torn_17 w_18 up_19 down_20 fell_21 =>
  if tag_12 = 0 then
    some (x1_13, above_14, below_15, fallen_16, torn_17, w_18, up_19, down_20, fell_21)
  else
    some ((-4), above_14, below_15, fallen_16, torn_17, w_18, up_19, down_20, fell_21)
def f_X8_has (x0 : Int32) (x1 : Int32) : Option (Int32) :=
  if ((x0 >>> (x1 &&& 31)) &&& 1) = 1 then
    some 1
  else
    some 0
def t_X8_odds_L39 (x3 : Int32) (k : Int32 → Int32 → Option (Int32)) (x5 : Int32) (x6 : Int32) : Option (Int32) :=
  b1 (f_X8_ones x3) fun r_6 =>
  if r_6 ≤ x6 then
    some x5
  else
    k (x5 * 10) (x6 + 1)
def f_X8_odds_L39 (x3 : Int32) : Nat → Int32 → Int32 → Option (Int32) := lpf2 (t_X8_odds_L39 x3)
def t_X8_odds_L89 (x1 : Int32) (x3 : Int32) (x6 : Int32) (k : Int32 → Int32 → (Nat → Int32) → Option (Int32 × (Nat → Int32))) (x7 : Int32) (x8 : Int32) (w : Nat → Int32) : Option (Int32 × (Nat → Int32)) :=
  if (w (0 : Int32).toNatClampNeg) ≤ x8 then
    some (x7, w)
  else
    b1 (f_X8_has x3 x8) fun r_13 =>
    b1 (
      if r_13 = 0 then
        some 1
      else
        b1 (f_X8_has x6 x8) fun r_18 =>
        if r_18 = 0 then
          some (10 - x1)
        else
          some x1
     : Option (Int32)) fun z_17 =>
    b1 (f_X8_has x6 x8) fun r_20 =>
    if r_20 = 0 then
      if (1102 + x8) < 0 ∨ 1142 ≤ (1102 + x8).toNatClampNeg then none else
      k (x7 * z_17) (x8 + 1) (upd w (1102 + x8).toNatClampNeg (w (1102 + x8).toNatClampNeg))
    else
      if (1102 + x8) < 0 ∨ 1142 ≤ (1102 + x8).toNatClampNeg then none else
      k (x7 * z_17) (x8 + 1) (upd w (1102 + x8).toNatClampNeg 0)
def f_X8_odds_L89 (x1 : Int32) (x3 : Int32) (x6 : Int32) : Nat → Int32 → Int32 → (Nat → Int32) → Option (Int32 × (Nat → Int32)) := lpf3 (t_X8_odds_L89 x1 x3 x6)
def t_X8_odds_L64 (x1 : Int32) (x3 : Int32) (k : Int32 → Int32 → Int32 → Int32 → Int32 → Int32 → (Nat → Int32) → (Nat → Int32) → (Nat → Int32) → (Nat → Int32) → Option (Int32 × Int32 × Int32 × Int32 × Int32 × (Nat → Int32) × (Nat → Int32) × (Nat → Int32) × (Nat → Int32))) (x4 : Int32) (x6 : Int32) (above : Int32) (below : Int32) (fallen : Int32) (torn : Int32) (w : Nat → Int32) (up : Nat → Int32) (down : Nat → Int32) (fell : Nat → Int32) : Option (Int32 × Int32 × Int32 × Int32 × Int32 × (Nat → Int32) × (Nat → Int32) × (Nat → Int32) × (Nat → Int32)) :=
  if x3 < x6 then
    some (x4, above, below, fallen, torn, w, up, down, fell)
  else
    if (x6 &&& (x3 ^^^ (-1))) = 0 then
      b1 (f_X8_tries w) fun w_11 =>
      b2 (f_X8_odds_L89 x1 x3 x6 FU 1 0 w_11) fun x7_24 w_25 =>
      b8 (f_X8_settles 1082 above below w_25 up down fell) fun above_26 below_27 fallen_28 torn_29 w_30 up_31 down_32 fell_33 =>
      if (fallen_28 + torn_29) = 0 then
        k (x4 + x7_24) (x6 + 1) above_26 below_27 fallen_28 torn_29 w_30 up_31 down_32 fell_33
      else
        k (x4 + 0) (x6 + 1) above_26 below_27 fallen_28 torn_29 w_30 up_31 down_32 fell_33
    else
      k x4 (x6 + 1) above below fallen torn w up down fell
def f_X8_odds_L64 (x1 : Int32) (x3 : Int32) : Nat → Int32 → Int32 → Int32 → Int32 → Int32 → Int32 → (Nat → Int32) → (Nat → Int32) → (Nat → Int32) → (Nat → Int32) → Option (Int32 × Int32 × Int32 × Int32 × Int32 × (Nat → Int32) × (Nat → Int32) × (Nat → Int32) × (Nat → Int32)) := lpf10 (t_X8_odds_L64 x1 x3)
def f_X8_odds (x1 : Int32) (x2 : Int32) (above : Int32) (below : Int32) (fallen : Int32) (torn : Int32) (w : Nat → Int32) (up : Nat → Int32) (down : Nat → Int32) (fell : Nat → Int32) : Option (Int32 × Int32 × Int32 × Int32 × Int32 × (Nat → Int32) × (Nat → Int32) × (Nat → Int32) × (Nat → Int32)) :=
  b1 (f_X8_in x1.toInt64 0 10) fun r_1 =>
  if r_1 = 0 then
    some ((-1), above, below, fallen, torn, w, up, down, fell)
  else
    b1 (f_X8_in x2.toInt64 0 1) fun r_3 =>
    if r_3 = 0 then
      some ((-1), above, below, fallen, torn, w, up, down, fell)
    else
      b1 (f_X8_holding 0 w) fun r_5 =>
      b1 (f_X8_odds_L39 r_5 FU 1 0) fun x5_8 =>
      b9 (f_X8_odds_L64 x1 r_5 FU 0 0 above below fallen torn w up down fell) fun x4_35 above_36 below_37 fallen_38 torn_39 w_40 up_41 down_42 fell_43 =>
      b1 (f_X8_partOf x4_35 x5_8 x2) fun r_44 =>
      some (r_44, above_36, below_37, fallen_38, torn_39, w_40, up_41, down_42, fell_43)
def t_X8_firstHolding_L2 (w : Nat → Int32) (k : Int32 → Option (Int32)) (x1 : Int32) : Option (Int32) :=
  b1 (f_X8_holds 0 x1 w) fun r_1 =>
  if r_1 = 0 then
    k (x1 + 1)
  else
    some x1
def f_X8_firstHolding_L2 (w : Nat → Int32) : Nat → Int32 → Option (Int32) := lpf1 (t_X8_firstHolding_L2 w)
def f_X8_firstHolding (w : Nat → Int32) : Option (Int32) :=
  b1 (f_X8_firstHolding_L2 w FU 0) fun x1_3 =>
  some x1_3
def t_X8_lastHolding_L9 (w : Nat → Int32) (k : Int32 → Option (Int32)) (x1 : Int32) : Option (Int32) :=
  b1 (f_X8_holds 0 x1 w) fun r_2 =>
  if r_2 = 0 then
    k (x1 + (-1))
  else
    some x1
def f_X8_lastHolding_L9 (w : Nat → Int32) : Nat → Int32 → Option (Int32) := lpf1 (t_X8_lastHolding_L9 w)
def f_X8_lastHolding (w : Nat → Int32) : Option (Int32) :=
  nm ((w (0 : Int32).toNatClampNeg) - 1) fun y_1 =>
  b1 (f_X8_lastHolding_L9 w FU y_1) fun x1_4 =>
  some x1_4
def t_X8_plays_L12 (x2 : Int32) (k : Int32 → Int32 → Option (Int32)) (x4 : Int32) (x5 : Int32) : Option (Int32) :=
  if x2 ≤ x5 then
    some x4
  else
    k (x4 * 3) (x5 + 1)
def f_X8_plays_L12 (x2 : Int32) : Nat → Int32 → Int32 → Option (Int32) := lpf2 (t_X8_plays_L12 x2)
def t_X8_plays_L36 (x2 : Int32) (k : Int32 → Int32 → Int32 → Int32 → (Nat → Int32) → Option (Int32 × (Nat → Int32))) (x3 : Int32) (x4 : Int32) (x5 : Int32) (x6 : Int32) (w : Nat → Int32) : Option (Int32 × (Nat → Int32)) :=
  if x2 ≤ x6 then
    some (x5, w)
  else
    b1 (
      if (x6 - x6 / 2 * 2) = 0 then
        b1 (f_X8_firstHolding w) fun r_9 =>
        some r_9
      else
        b1 (f_X8_lastHolding w) fun r_10 =>
        some r_10
     : Option (Int32)) fun z_8 =>
    if x4 = 0 then none else
    b1 (
      if x4 = 1 then
        some 1
      else
        some (x4 / 3)
     : Option (Int32)) fun z_13 =>
    b1 (
      if x5 = 0 then
        some 0
      else
        b1 (f_X8_mayGo 1082 z_8 ((x3 / x4) - 1) w) fun r_18 =>
        if r_18 = 0 then
          some 0
        else
          some 1
     : Option (Int32)) fun z_17 =>
    if (1110 + z_8) < 0 ∨ 1142 ≤ (1110 + z_8).toNatClampNeg then none else
    k (x3 - x3 / x4 * x4) z_13 z_17 (x6 + 1) (upd w (1110 + z_8).toNatClampNeg ((w (1110 + z_8).toNatClampNeg) + ((x3 / x4) - 1)))
def f_X8_plays_L36 (x2 : Int32) : Nat → Int32 → Int32 → Int32 → Int32 → (Nat → Int32) → Option (Int32 × (Nat → Int32)) := lpf5 (t_X8_plays_L36 x2)
def f_X8_plays (x1 : Int32) (x2 : Int32) (w : Nat → Int32) (up : Nat → Int32) (down : Nat → Int32) (comesUp : Nat → Int32) (comesDown : Nat → Int32) : Option (Int32 × (Nat → Int32) × (Nat → Int32) × (Nat → Int32) × (Nat → Int32) × (Nat → Int32)) :=
  b1 (f_X8_tries w) fun w_1 =>
  b1 (f_X8_plays_L12 x2 FU 1 1) fun x4_3 =>
  b2 (f_X8_plays_L36 x2 FU x1 x4_3 1 0 w_1) fun x5_21 w_22 =>
  b2 (f_X8_layPulls 1082 w_22 up down) fun up_23 down_24 =>
  b1 (f_X8_greatest 1082 w_22 up_23 down_24) fun r_25 =>
  if r_25 < 0 ∨ 8 ≤ r_25.toNatClampNeg then none else
  if x1 < 0 ∨ 243 ≤ x1.toNatClampNeg then none else
  if x5_21 = 0 then
    if x5_21 = 0 ∨ x5_21 = 1 then some (x5_21, w_22, up_23, down_24, upd comesUp x1.toNatClampNeg (up_23 r_25.toNatClampNeg), upd comesDown x1.toNatClampNeg 0) else none
  else
    if x5_21 = 0 ∨ x5_21 = 1 then some (x5_21, w_22, up_23, down_24, upd comesUp x1.toNatClampNeg (up_23 r_25.toNatClampNeg), upd comesDown x1.toNatClampNeg (down_24 r_25.toNatClampNeg)) else none
def t_X8_takesBest_L7 (x1 : Int32) (x2 : Int32) (comesUp : Nat → Int32) (comesDown : Nat → Int32) (k : Int32 → Int32 → Option (Int32)) (x3 : Int32) (x4 : Int32) : Option (Int32) :=
  if ((3 * x1) + 3) ≤ x4 then
    some x3
  else
    b1 (
      if x3 < 0 then
        some 0
      else
        if x4 < 0 ∨ 243 ≤ x4.toNatClampNeg then none else
        if (comesDown x4.toNatClampNeg) = 0 then
          some 0
        else
          if x3 < 0 ∨ 243 ≤ x3.toNatClampNeg then none else
          some (((comesUp x4.toNatClampNeg) * (comesDown x3.toNatClampNeg)) - ((comesUp x3.toNatClampNeg) * (comesDown x4.toNatClampNeg)))
     : Option (Int32)) fun z_6 =>
    if x4 < 0 ∨ 243 ≤ x4.toNatClampNeg then none else
    b1 (
      if (comesDown x4.toNatClampNeg) ≤ 0 then
        some 0
      else
        if x3 < 0 then
          some 1
        else
          if x2 = 0 then
            if z_6 ≤ 0 then
              some 0
            else
              some 1
          else
            if 0 ≤ z_6 then
              some 0
            else
              some 1
     : Option (Int32)) fun z_16 =>
    if z_16 = 0 then
      k x3 (x4 + 1)
    else
      k x4 (x4 + 1)
def f_X8_takesBest_L7 (x1 : Int32) (x2 : Int32) (comesUp : Nat → Int32) (comesDown : Nat → Int32) : Nat → Int32 → Int32 → Option (Int32) := lpf2 (t_X8_takesBest_L7 x1 x2 comesUp comesDown)
def f_X8_takesBest (x1 : Int32) (x2 : Int32) (comesUp : Nat → Int32) (comesDown : Nat → Int32) : Option ((Nat → Int32) × (Nat → Int32)) :=
  b1 (f_X8_takesBest_L7 x1 x2 comesUp comesDown FU (-1) (3 * x1)) fun x3_22 =>
  b1 (
    if 0 ≤ x3_22 then
      if x3_22 < 0 ∨ 243 ≤ x3_22.toNatClampNeg then none else
      some (comesUp x3_22.toNatClampNeg)
    else
      some 0
   : Option (Int32)) fun z_25 =>
  if x1 < 0 ∨ 243 ≤ x1.toNatClampNeg then none else
  if 0 ≤ x3_22 then
    if x3_22 < 0 ∨ 243 ≤ x3_22.toNatClampNeg then none else
    some (upd comesUp x1.toNatClampNeg z_25, upd comesDown x1.toNatClampNeg (comesDown x3_22.toNatClampNeg))
  else
    some (upd comesUp x1.toNatClampNeg z_25, upd comesDown x1.toNatClampNeg 0)
def t_X8_war_L39 (x1 : Int32) (k : Int32 → Int32 → Option (Int32)) (x3 : Int32) (x4 : Int32) : Option (Int32) :=
  if x1 ≤ x4 then
    some x3
  else
    k (x3 * 3) (x4 + 1)
def f_X8_war_L39 (x1 : Int32) : Nat → Int32 → Int32 → Option (Int32) := lpf2 (t_X8_war_L39 x1)
def t_X8_war_L61 (x1 : Int32) (x3 : Int32) (k : Int32 → Int32 → (Nat → Int32) → (Nat → Int32) → (Nat → Int32) → (Nat → Int32) → (Nat → Int32) → Option (Int32 × (Nat → Int32) × (Nat → Int32) × (Nat → Int32) × (Nat → Int32) × (Nat → Int32))) (x4 : Int32) (x5 : Int32) (w : Nat → Int32) (up : Nat → Int32) (down : Nat → Int32) (comesUp : Nat → Int32) (comesDown : Nat → Int32) : Option (Int32 × (Nat → Int32) × (Nat → Int32) × (Nat → Int32) × (Nat → Int32) × (Nat → Int32)) :=
  if x3 ≤ x5 then
    some (x4, w, up, down, comesUp, comesDown)
  else
    b6 (f_X8_plays x5 x1 w up down comesUp comesDown) fun r_10 w_11 up_12 down_13 comesUp_14 comesDown_15 =>
    if r_10 = 0 then
      k (x4 + 0) (x5 + 1) w_11 up_12 down_13 comesUp_14 comesDown_15
    else
      k (x4 + 1) (x5 + 1) w_11 up_12 down_13 comesUp_14 comesDown_15
def f_X8_war_L61 (x1 : Int32) (x3 : Int32) : Nat → Int32 → Int32 → (Nat → Int32) → (Nat → Int32) → (Nat → Int32) → (Nat → Int32) → (Nat → Int32) → Option (Int32 × (Nat → Int32) × (Nat → Int32) × (Nat → Int32) × (Nat → Int32) × (Nat → Int32)) := lpf7 (t_X8_war_L61 x1 x3)
def t_X8_war_L115 (x3 : Int32) (x5 : Int32) (k : Int32 → (Nat → Int32) → (Nat → Int32) → Option ((Nat → Int32) × (Nat → Int32))) (x6 : Int32) (comesUp : Nat → Int32) (comesDown : Nat → Int32) : Option ((Nat → Int32) × (Nat → Int32)) :=
  if x3 ≤ x6 then
    some (comesUp, comesDown)
  else
    if (x5 - x5 / 2 * 2) = 0 then
      b2 (f_X8_takesBest x6 1 comesUp comesDown) fun comesUp_27 comesDown_28 =>
      k (x6 + 1) comesUp_27 comesDown_28
    else
      b2 (f_X8_takesBest x6 0 comesUp comesDown) fun comesUp_29 comesDown_30 =>
      k (x6 + 1) comesUp_29 comesDown_30
def f_X8_war_L115 (x3 : Int32) (x5 : Int32) : Nat → Int32 → (Nat → Int32) → (Nat → Int32) → Option ((Nat → Int32) × (Nat → Int32)) := lpf3 (t_X8_war_L115 x3 x5)
def t_X8_war_L98 (x4 : Int32) (k : Int32 → Int32 → (Nat → Int32) → (Nat → Int32) → Option ((Nat → Int32) × (Nat → Int32))) (x3 : Int32) (x5 : Int32) (comesUp : Nat → Int32) (comesDown : Nat → Int32) : Option ((Nat → Int32) × (Nat → Int32)) :=
  if x5 < 0 then
    some (comesUp, comesDown)
  else
    if x4 ≤ 0 then
      some (comesUp, comesDown)
    else
      b2 (f_X8_war_L115 (x3 / 3) x5 FU 0 comesUp comesDown) fun comesUp_31 comesDown_32 =>
      k (x3 / 3) (x5 + (-1)) comesUp_31 comesDown_32
def f_X8_war_L98 (x4 : Int32) : Nat → Int32 → Int32 → (Nat → Int32) → (Nat → Int32) → Option ((Nat → Int32) × (Nat → Int32)) := lpf4 (t_X8_war_L98 x4)
def f_X8_war (x1 : Int32) (x2 : Int32) (w : Nat → Int32) (up : Nat → Int32) (down : Nat → Int32) (comesUp : Nat → Int32) (comesDown : Nat → Int32) : Option (Int32 × (Nat → Int32) × (Nat → Int32) × (Nat → Int32) × (Nat → Int32) × (Nat → Int32)) :=
  b1 (f_X8_in x1.toInt64 0 5) fun r_1 =>
  if r_1 = 0 then
    some ((-1), w, up, down, comesUp, comesDown)
  else
    b1 (f_X8_in x2.toInt64 0 1) fun r_3 =>
    if r_3 = 0 then
      some ((-1), w, up, down, comesUp, comesDown)
    else
      b1 (f_X8_holding 0 w) fun r_5 =>
      if r_5 = 0 then
        some (x2, w, up, down, comesUp, comesDown)
      else
        b1 (f_X8_war_L39 x1 FU 1 0) fun x3_8 =>
        b6 (f_X8_war_L61 x1 x3_8 FU 0 0 w up down comesUp comesDown) fun x4_17 w_18 up_19 down_20 comesUp_21 comesDown_22 =>
        b2 (f_X8_war_L98 x4_17 FU x3_8 (x1 - 1) comesUp_21 comesDown_22) fun comesUp_33 comesDown_34 =>
        b1 (f_X8_partOf (comesUp_33 (0 : Int32).toNatClampNeg) (comesDown_34 (0 : Int32).toNatClampNeg) x2) fun r_35 =>
        some (r_35, w_18, up_19, down_20, comesUp_33, comesDown_34)
def t_X8_image_L2  (k : Int32 → (Nat → Int32) → Option ((Nat → Int32))) (x1 : Int32) (w : Nat → Int32) : Option ((Nat → Int32)) :=
  if 541 ≤ x1 then
    some w
  else
    if x1 < 0 ∨ 1142 ≤ x1.toNatClampNeg then none else
    if (541 + x1) < 0 ∨ 1142 ≤ (541 + x1).toNatClampNeg then none else
    k (x1 + 1) (upd w (541 + x1).toNatClampNeg (w x1.toNatClampNeg))
def f_X8_image_L2  : Nat → Int32 → (Nat → Int32) → Option ((Nat → Int32)) := lpf2 (t_X8_image_L2)
def f_X8_image (w : Nat → Int32) : Option (Int32 × Int32 × (Nat → Int32)) :=
  b1 (f_X8_image_L2 FU 0 w) fun w_4 =>
  some (1, 1, w_4)
def t_X8_restore_L12  (k : Int32 → (Nat → Int32) → Option ((Nat → Int32))) (x1 : Int32) (w : Nat → Int32) : Option ((Nat → Int32)) :=
  if 541 ≤ x1 then
    some w
  else
    if (541 + x1) < 0 ∨ 1142 ≤ (541 + x1).toNatClampNeg then none else
    if x1 < 0 ∨ 1142 ≤ x1.toNatClampNeg then none else
    k (x1 + 1) (upd w x1.toNatClampNeg (w (541 + x1).toNatClampNeg))
def f_X8_restore_L12  : Nat → Int32 → (Nat → Int32) → Option ((Nat → Int32)) := lpf2 (t_X8_restore_L12)
def f_X8_restore (isImage : Int32) (w : Nat → Int32) : Option (Int32 × (Nat → Int32)) :=
  if isImage = 0 then
    some ((-4), w)
  else
    b1 (f_X8_restore_L12 FU 0 w) fun w_5 =>
    some (1, w_5)
def f_X8_isRegister (x0 : Int32) : Option (Int32) :=
  b1 (f_X8_in x0.toInt64 0 3) fun r_1 =>
  if r_1 = 0 ∨ r_1 = 1 then some r_1 else none
def f_X8_isLane (x0 : Int32) : Option (Int32) :=
  b1 (f_X8_in x0.toInt64 0 3) fun r_1 =>
  if r_1 = 0 ∨ r_1 = 1 then some r_1 else none
def f_X8_seams (w : Nat → Int32) : Option (Int32) :=
  if (w (0 : Int32).toNatClampNeg) ≤ 1 then
    some 0
  else
    some ((w (0 : Int32).toNatClampNeg) - 1)
def f_X8_against (x1 : Int32) (x2 : Int32) (x3 : Int32) (x4 : Int32) (lane : Nat → Int32) (size : Nat → Int32) : Option (Int32) :=
  if x1 < 0 ∨ 4 ≤ x1.toNatClampNeg then none else
  if 0 ≤ (lane x1.toNatClampNeg) then
    if (lane x1.toNatClampNeg) = x2 then
      if x3 < 0 then
        some (-13)
      else
        if x4 < 0 then
          some (-13)
        else
          if (lg_cmp (x3.toInt64 + x4.toInt64) ((size x1.toNatClampNeg).toInt64)) ≤ 0 then
            some 0
          else
            some (-13)
    else
      some (-12)
  else
    some (-11)
def t_X8_pullsSo_L11 (x1 : Int32) (w : Nat → Int32) (items : Nat → Int64) (up : Nat → Int32) (down : Nat → Int32) (k : Int32 → Int32 → Option (Int32)) (x2 : Int32) (x3 : Int32) : Option (Int32) :=
  b1 (f_X8_seams w) fun r_3 =>
  if r_3 ≤ x3 then
    some x2
  else
    if x2 = 0 then
      k 0 (x3 + 1)
    else
      if (x1 + x3) < 0 ∨ 96 ≤ (x1 + x3).toNatClampNeg then none else
      if x3 < 0 ∨ 8 ≤ x3.toNatClampNeg then none else
      if (down x3.toNatClampNeg) = 0 then none else
      if (lg_cmp (items (x1 + x3).toNatClampNeg) (((up x3.toNatClampNeg) / (down x3.toNatClampNeg)).toInt64)) = 0 then
        k 1 (x3 + 1)
      else
        k 0 (x3 + 1)
def f_X8_pullsSo_L11 (x1 : Int32) (w : Nat → Int32) (items : Nat → Int64) (up : Nat → Int32) (down : Nat → Int32) : Nat → Int32 → Int32 → Option (Int32) := lpf2 (t_X8_pullsSo_L11 x1 w items up down)
def f_X8_pullsSo (x1 : Int32) (w : Nat → Int32) (items : Nat → Int64) (up : Nat → Int32) (down : Nat → Int32) : Option (Int32 × (Nat → Int32) × (Nat → Int32)) :=
  b2 (f_X8_layPulls 1082 w up down) fun up_1 down_2 =>
  b1 (f_X8_pullsSo_L11 x1 w items up_1 down_2 FU 1 0) fun x2_10 =>
  if x2_10 = 0 ∨ x2_10 = 1 then some (x2_10, up_1, down_2) else none
def t_X8_moved_L85 (x1 : Int32) (x2 : Int32) (x4 : Int32) (items : Nat → Int64) (k : Int32 → Int32 → Int32 → Int32 → (Nat → Int32) → (Nat → Int32) → (Nat → Int32) → Option (Int32 × Int32 × Int32 × (Nat → Int32) × (Nat → Int32) × (Nat → Int32))) (x7 : Int32) (x8 : Int32) (x9 : Int32) (x10 : Int32) (w : Nat → Int32) (up : Nat → Int32) (down : Nat → Int32) : Option (Int32 × Int32 × Int32 × (Nat → Int32) × (Nat → Int32) × (Nat → Int32)) :=
  if 99 < x10 then
    some (x7, x8, x9, w, up, down)
  else
    b1 (f_X8_tries w) fun w_15 =>
    if (1110 + x1) < 0 ∨ 1142 ≤ (1110 + x1).toNatClampNeg then none else
    b3 (f_X8_pullsSo ((24 * x2) + x4) (upd w_15 (1110 + x1).toNatClampNeg x10) items up down) fun r_17 up_18 down_19 =>
    b1 (
      if r_17 = 0 then
        some x8
      else
        if x7 = 0 then
          some x10
        else
          some x8
     : Option (Int32)) fun z_22 =>
    b1 (
      if r_17 = 0 then
        some x9
      else
        some x10
     : Option (Int32)) fun z_25 =>
    if r_17 = 0 then
      k (x7 + 0) z_22 z_25 (x10 + 1) (upd w_15 (1110 + x1).toNatClampNeg x10) up_18 down_19
    else
      k (x7 + 1) z_22 z_25 (x10 + 1) (upd w_15 (1110 + x1).toNatClampNeg x10) up_18 down_19
def f_X8_moved_L85 (x1 : Int32) (x2 : Int32) (x4 : Int32) (items : Nat → Int64) : Nat → Int32 → Int32 → Int32 → Int32 → (Nat → Int32) → (Nat → Int32) → (Nat → Int32) → Option (Int32 × Int32 × Int32 × (Nat → Int32) × (Nat → Int32) × (Nat → Int32)) := lpf7 (t_X8_moved_L85 x1 x2 x4 items)
def f_X8_moved (x1 : Int32) (x2 : Int32) (x3 : Int32) (x4 : Int32) (x5 : Int32) (w : Nat → Int32) (lane : Nat → Int32) (size : Nat → Int32) (items : Nat → Int64) (up : Nat → Int32) (down : Nat → Int32) : Option (Int32 × (Nat → Int32) × (Nat → Int32) × (Nat → Int32)) :=
  b1 (f_X8_isPerson x1 w) fun r_1 =>
  if r_1 = 0 then
    some ((-1), w, up, down)
  else
    b1 (f_X8_isRegister x2) fun r_3 =>
    if r_3 = 0 then
      some ((-1), w, up, down)
    else
      b1 (f_X8_isLane x3) fun r_5 =>
      if r_5 = 0 then
        some ((-1), w, up, down)
      else
        b1 (f_X8_in x5.toInt64 0 2) fun r_7 =>
        if r_7 = 0 then
          some ((-1), w, up, down)
        else
          b1 (f_X8_holds 0 x1 w) fun r_9 =>
          if r_9 = 0 then
            some ((-2), w, up, down)
          else
            b1 (f_X8_seams w) fun r_11 =>
            b1 (f_X8_against x2 x3 x4 r_11 lane size) fun r_12 =>
            if 0 ≤ r_12 then
              b6 (f_X8_moved_L85 x1 x2 x4 items FU 0 (-4) (-4) 0 w up down) fun x7_27 x8_28 x9_29 w_30 up_31 down_32 =>
              if x5 = 0 then
                some (x7_27, w_30, up_31, down_32)
              else
                if x5 = 1 then
                  some (x8_28, w_30, up_31, down_32)
                else
                  some (x9_29, w_30, up_31, down_32)
            else
              some (r_12, w, up, down)
def t_X8_givesSo_L6 (x1 : Int32) (x2 : Int32) (x3 : Int32) (x4 : Int32) (items : Nat → Int64) (k : Int32 → Int32 → Option (Int32)) (x5 : Int32) (x6 : Int32) : Option (Int32) :=
  if x4 ≤ x6 then
    some x5
  else
    if (x3 + (2 * x6)) < 0 ∨ 96 ≤ (x3 + (2 * x6)).toNatClampNeg then none else
    b1 (
      if (lg_cmp (items (x3 + (2 * x6)).toNatClampNeg) x1.toInt64) ≤ 0 then
        some 0
      else
        if x2.toInt64 = 0 then none else
        some (((items (x3 + (2 * x6)).toNatClampNeg) - x1.toInt64) / x2.toInt64)
     : Option (Int64)) fun z_5 =>
    if x5 = 0 then
      k 0 (x6 + 1)
    else
      if ((x3 + (2 * x6)) + 1) < 0 ∨ 96 ≤ ((x3 + (2 * x6)) + 1).toNatClampNeg then none else
      if (lg_cmp (items ((x3 + (2 * x6)) + 1).toNatClampNeg) z_5) = 0 then
        k 1 (x6 + 1)
      else
        k 0 (x6 + 1)
def f_X8_givesSo_L6 (x1 : Int32) (x2 : Int32) (x3 : Int32) (x4 : Int32) (items : Nat → Int64) : Nat → Int32 → Int32 → Option (Int32) := lpf2 (t_X8_givesSo_L6 x1 x2 x3 x4 items)
def f_X8_givesSo (x1 : Int32) (x2 : Int32) (x3 : Int32) (x4 : Int32) (items : Nat → Int64) : Option (Int32) :=
  b1 (f_X8_givesSo_L6 x1 x2 x3 x4 items FU 1 0) fun x5_10 =>
  if x5_10 = 0 ∨ x5_10 = 1 then some x5_10 else none
def t_X8_gives_L81 (x1 : Int32) (x3 : Int32) (x4 : Int32) (x9 : Int32) (items : Nat → Int64) (k : Int32 → Int32 → Int32 → Option (Int32 × Int32)) (x7 : Int32) (x8 : Int32) (x10 : Int32) : Option (Int32 × Int32) :=
  if 9 < x10 then
    some (x7, x8)
  else
    b1 (f_X8_givesSo x9 x10 ((24 * x1) + x3) x4 items) fun r_13 =>
    b1 (
      if r_13 = 0 then
        some x8
      else
        if x7 = 0 then
          some ((10 * x9) + x10)
        else
          some x8
     : Option (Int32)) fun z_16 =>
    if r_13 = 0 then
      k (x7 + 0) z_16 (x10 + 1)
    else
      k (x7 + 1) z_16 (x10 + 1)
def f_X8_gives_L81 (x1 : Int32) (x3 : Int32) (x4 : Int32) (x9 : Int32) (items : Nat → Int64) : Nat → Int32 → Int32 → Int32 → Option (Int32 × Int32) := lpf3 (t_X8_gives_L81 x1 x3 x4 x9 items)
def t_X8_gives_L71 (x1 : Int32) (x3 : Int32) (x4 : Int32) (items : Nat → Int64) (k : Int32 → Int32 → Int32 → Option (Int32 × Int32)) (x7 : Int32) (x8 : Int32) (x9 : Int32) : Option (Int32 × Int32) :=
  if 20 < x9 then
    some (x7, x8)
  else
    b2 (f_X8_gives_L81 x1 x3 x4 x9 items FU x7 x8 1) fun x7_19 x8_20 =>
    k x7_19 x8_20 (x9 + 1)
def f_X8_gives_L71 (x1 : Int32) (x3 : Int32) (x4 : Int32) (items : Nat → Int64) : Nat → Int32 → Int32 → Int32 → Option (Int32 × Int32) := lpf3 (t_X8_gives_L71 x1 x3 x4 items)
def f_X8_gives (x1 : Int32) (x2 : Int32) (x3 : Int32) (x4 : Int32) (x5 : Int32) (lane : Nat → Int32) (size : Nat → Int32) (items : Nat → Int64) : Option (Int32) :=
  b1 (f_X8_isRegister x1) fun r_1 =>
  if r_1 = 0 then
    some (-1)
  else
    b1 (f_X8_isLane x2) fun r_3 =>
    if r_3 = 0 then
      some (-1)
    else
      b1 (f_X8_in x4.toInt64 1 10) fun r_5 =>
      if r_5 = 0 then
        some (-1)
      else
        b1 (f_X8_in x5.toInt64 0 1) fun r_7 =>
        if r_7 = 0 then
          some (-1)
        else
          b1 (f_X8_against x1 x2 x3 (2 * x4) lane size) fun r_9 =>
          if 0 ≤ r_9 then
            b2 (f_X8_gives_L71 x1 x3 x4 items FU 0 (-4) 1) fun x7_21 x8_22 =>
            if x5 = 0 then
              some x7_21
            else
              some x8_22
          else
            some r_9
def t_X8_log_L54 (x1 : Int32) (x2 : Int32) (x4 : Int32) (k : Int32 → Int32 → Int32 → Int32 → Int32 → (Nat → Int32) → (Nat → Int64) → (Nat → Int32) → (Nat → Int32) → (Nat → Int32) → Option (Int32 × Int32 × Int32 × Int32 × (Nat → Int32) × (Nat → Int64) × (Nat → Int32) × (Nat → Int32) × (Nat → Int32))) (x6 : Int32) (above : Int32) (below : Int32) (fallen : Int32) (torn : Int32) (w : Nat → Int32) (items : Nat → Int64) (up : Nat → Int32) (down : Nat → Int32) (fell : Nat → Int32) : Option (Int32 × Int32 × Int32 × Int32 × (Nat → Int32) × (Nat → Int64) × (Nat → Int32) × (Nat → Int32) × (Nat → Int32)) :=
  if x1 ≤ x6 then
    some (above, below, fallen, torn, w, items, up, down, fell)
  else
    b8 (f_X8_hourOf 1082 above below w up down fell) fun above_11 below_12 fallen_13 torn_14 w_15 up_16 down_17 fell_18 =>
    b3 (f_X8_greatestCut 1082 w_15 up_16 down_17) fun r_19 up_20 down_21 =>
    if (((24 * x2) + x4) + x6) < 0 ∨ 96 ≤ (((24 * x2) + x4) + x6).toNatClampNeg then none else
    k (x6 + 1) above_11 below_12 fallen_13 torn_14 w_15 (vp_updL items (((24 * x2) + x4) + x6).toNatClampNeg r_19.toInt64) up_20 down_21 fell_18
def f_X8_log_L54 (x1 : Int32) (x2 : Int32) (x4 : Int32) : Nat → Int32 → Int32 → Int32 → Int32 → Int32 → (Nat → Int32) → (Nat → Int64) → (Nat → Int32) → (Nat → Int32) → (Nat → Int32) → Option (Int32 × Int32 × Int32 × Int32 × (Nat → Int32) × (Nat → Int64) × (Nat → Int32) × (Nat → Int32) × (Nat → Int32)) := lpf10 (t_X8_log_L54 x1 x2 x4)
def f_X8_log (x1 : Int32) (x2 : Int32) (x3 : Int32) (x4 : Int32) (above : Int32) (below : Int32) (fallen : Int32) (torn : Int32) (w : Nat → Int32) (lane : Nat → Int32) (size : Nat → Int32) (items : Nat → Int64) (up : Nat → Int32) (down : Nat → Int32) (fell : Nat → Int32) : Option (Int32 × Int32 × Int32 × Int32 × Int32 × (Nat → Int32) × (Nat → Int64) × (Nat → Int32) × (Nat → Int32) × (Nat → Int32)) :=
  b1 (f_X8_in x1.toInt64 1 24) fun r_1 =>
  if r_1 = 0 then
    some ((-1), above, below, fallen, torn, w, items, up, down, fell)
  else
    b1 (f_X8_isRegister x2) fun r_3 =>
    if r_3 = 0 then
      some ((-1), above, below, fallen, torn, w, items, up, down, fell)
    else
      b1 (f_X8_isLane x3) fun r_5 =>
      if r_5 = 0 then
        some ((-1), above, below, fallen, torn, w, items, up, down, fell)
      else
        b1 (f_X8_against x2 x3 x4 x1 lane size) fun r_7 =>
        if 0 ≤ r_7 then
          b1 (f_X8_tries w) fun w_9 =>
          b9 (f_X8_log_L54 x1 x2 x4 FU 0 above below fallen torn w_9 items up down fell) fun above_23 below_24 fallen_25 torn_26 w_27 items_28 up_29 down_30 fell_31 =>
          some (x1, above_23, below_24, fallen_25, torn_26, w_27, items_28, up_29, down_30, fell_31)
        else
          some (r_7, above, below, fallen, torn, w, items, up, down, fell)
def t_X8_sheet_L46 (x1 : Int32) (k : Int32 → (Nat → Int64) → Option ((Nat → Int64))) (x4 : Int32) (items : Nat → Int64) : Option ((Nat → Int64)) :=
  if 24 ≤ x4 then
    some items
  else
    if ((24 * x1) + x4) < 0 ∨ 96 ≤ ((24 * x1) + x4).toNatClampNeg then none else
    k (x4 + 1) (vp_updL items ((24 * x1) + x4).toNatClampNeg 0)
def f_X8_sheet_L46 (x1 : Int32) : Nat → Int32 → (Nat → Int64) → Option ((Nat → Int64)) := lpf2 (t_X8_sheet_L46 x1)
def f_X8_sheet (x1 : Int32) (x2 : Int32) (x3 : Int32) (lane : Nat → Int32) (size : Nat → Int32) (items : Nat → Int64) : Option (Int32 × (Nat → Int32) × (Nat → Int32) × (Nat → Int64)) :=
  b1 (f_X8_isRegister x1) fun r_1 =>
  if r_1 = 0 then
    some ((-1), lane, size, items)
  else
    b1 (f_X8_isLane x2) fun r_3 =>
    if r_3 = 0 then
      some ((-1), lane, size, items)
    else
      if x3 ≤ 24 then
        if 0 ≤ x3 then
          if x1 < 0 ∨ 4 ≤ x1.toNatClampNeg then none else
          b1 (f_X8_sheet_L46 x1 FU 0 items) fun items_10 =>
          some (x3, upd lane x1.toNatClampNeg x2, upd size x1.toNatClampNeg x3, items_10)
        else
          some ((-14), lane, size, items)
      else
        some ((-1), lane, size, items)
def f_X8_drop (x1 : Int32) (lane : Nat → Int32) (size : Nat → Int32) : Option (Int32 × (Nat → Int32)) :=
  b1 (f_X8_isRegister x1) fun r_1 =>
  if r_1 = 0 then
    some ((-1), lane)
  else
    if x1 < 0 ∨ 4 ≤ x1.toNatClampNeg then none else
    if 0 ≤ (lane x1.toNatClampNeg) then
      some ((size x1.toNatClampNeg), upd lane x1.toNatClampNeg (-1))
    else
      some ((-11), lane)
def f_X8_cut (x0 : Int32) (x1 : Int64) : Option (Int64) :=
  if x0 = 0 then
    some x1.toInt32.toInt8.toInt32.toInt64
  else
    if x0 = 1 then
      some x1.toInt32.toInt16.toInt32.toInt64
    else
      if x0 = 2 then
        some x1.toInt32.toInt64
      else
        some x1
def f_X8_item (x1 : Int32) (x2 : Int32) (x3 : Int32) (x4 : Int64) (lane : Nat → Int32) (size : Nat → Int32) (items : Nat → Int64) : Option (Int32 × (Nat → Int64)) :=
  b1 (f_X8_isRegister x1) fun r_1 =>
  if r_1 = 0 then
    some ((-1), items)
  else
    b1 (f_X8_isLane x2) fun r_3 =>
    if r_3 = 0 then
      some ((-1), items)
    else
      b1 (f_X8_against x1 x2 x3 1 lane size) fun r_5 =>
      if 0 ≤ r_5 then
        b1 (f_X8_cut x2 x4) fun r_7 =>
        if ((24 * x1) + x3) < 0 ∨ 96 ≤ ((24 * x1) + x3).toNatClampNeg then none else
        some (1, vp_updL items ((24 * x1) + x3).toNatClampNeg r_7)
      else
        some (r_5, items)
def t_X8_copy_L96 (x1 : Int32) (x2 : Int32) (x5 : Int32) (items : Nat → Int64) (k : Int32 → (Nat → Int64) → Option ((Nat → Int64))) (x6 : Int32) (held : Nat → Int64) : Option ((Nat → Int64)) :=
  if x5 ≤ x6 then
    some held
  else
    if (((24 * x1) + x2) + x6) < 0 ∨ 96 ≤ (((24 * x1) + x2) + x6).toNatClampNeg then none else
    if x6 < 0 ∨ 24 ≤ x6.toNatClampNeg then none else
    k (x6 + 1) (vp_updL held x6.toNatClampNeg (items (((24 * x1) + x2) + x6).toNatClampNeg))
def f_X8_copy_L96 (x1 : Int32) (x2 : Int32) (x5 : Int32) (items : Nat → Int64) : Nat → Int32 → (Nat → Int64) → Option ((Nat → Int64)) := lpf2 (t_X8_copy_L96 x1 x2 x5 items)
def t_X8_copy_L133 (x3 : Int32) (x4 : Int32) (x5 : Int32) (held : Nat → Int64) (k : Int32 → (Nat → Int64) → Option ((Nat → Int64))) (x6 : Int32) (items : Nat → Int64) : Option ((Nat → Int64)) :=
  if x5 ≤ x6 then
    some items
  else
    if x6 < 0 ∨ 24 ≤ x6.toNatClampNeg then none else
    if (((24 * x3) + x4) + x6) < 0 ∨ 96 ≤ (((24 * x3) + x4) + x6).toNatClampNeg then none else
    k (x6 + 1) (vp_updL items (((24 * x3) + x4) + x6).toNatClampNeg (held x6.toNatClampNeg))
def f_X8_copy_L133 (x3 : Int32) (x4 : Int32) (x5 : Int32) (held : Nat → Int64) : Nat → Int32 → (Nat → Int64) → Option ((Nat → Int64)) := lpf2 (t_X8_copy_L133 x3 x4 x5 held)
def f_X8_copy (x1 : Int32) (x2 : Int32) (x3 : Int32) (x4 : Int32) (x5 : Int32) (lane : Nat → Int32) (size : Nat → Int32) (items : Nat → Int64) (held : Nat → Int64) : Option (Int32 × (Nat → Int64) × (Nat → Int64)) :=
  b1 (f_X8_isRegister x1) fun r_1 =>
  if r_1 = 0 then
    some ((-1), items, held)
  else
    b1 (f_X8_isRegister x3) fun r_3 =>
    if r_3 = 0 then
      some ((-1), items, held)
    else
      if x1 < 0 ∨ 4 ≤ x1.toNatClampNeg then none else
      if (lane x1.toNatClampNeg) < 0 then
        some ((-11), items, held)
      else
        if x3 < 0 ∨ 4 ≤ x3.toNatClampNeg then none else
        if 0 ≤ (lane x3.toNatClampNeg) then
          if (lane x1.toNatClampNeg) = (lane x3.toNatClampNeg) then
            b1 (f_X8_against x1 (lane x1.toNatClampNeg) x2 x5 lane size) fun r_10 =>
            if r_10 < 0 then
              some ((-13), items, held)
            else
              b1 (f_X8_against x3 (lane x3.toNatClampNeg) x4 x5 lane size) fun r_12 =>
              if 0 ≤ r_12 then
                b1 (f_X8_copy_L96 x1 x2 x5 items FU 0 held) fun held_17 =>
                b1 (f_X8_copy_L133 x3 x4 x5 held_17 FU 0 items) fun items_21 =>
                some (x5, items_21, held_17)
              else
                some ((-13), items, held)
          else
            some ((-12), items, held)
        else
          some ((-11), items, held)
