set_option maxRecDepth 100000
def ox {α β γ : Type} (o : Option α) (e : Option β) (k1 : α → Option γ) (k2 : β → Option γ) : Option γ := match o with
  | some a => k1 a
  | none => match e with
    | some b => k2 b
    | none => none
theorem ox_at {α β γ : Type} {o : Option α} {e : Option β} {k1 : α → Option γ} {k2 : β → Option γ} {r : γ} {P : Prop} (h : ox o e k1 k2 = some r) (h1 : ∀ a, o = some a → k1 a = some r → P) (h2 : ∀ b, e = some b → k2 b = some r → P) : P := by
  cases o with
  | some a => exact h1 a rfl h
  | none =>
    cases e with
    | some b => exact h2 b rfl h
    | none => cases h

def f_X0_must (x1 : Int32) (place : Int32) : Option (Int32) :=
  if x1 = 0 then
    none
  else
    some (place + 1)
def e_X0_must (x1 : Int32) (place : Int32) : Option (Int32 × Int32) :=
  if x1 = 0 then
    some (place, place)
  else
    none
def t_X0_number_L37 (x3 : Int32) (typed : Int32) (tape : Nat → Int32) (k : Int32 → Int32 → Option (Int32 × Int32)) (x4 : Int32) (place : Int32) : Option (Int32 × Int32) :=
  if typed ≤ place then
    some (x4, place)
  else
    if (x3 + 2) ≤ place then
      some (x4, place)
    else
      if place < 0 ∨ 90 ≤ place.toNatClampNeg then none else
      b1 (f_X0_in ((tape place.toNatClampNeg).toInt64) 48 57) fun r_8 =>
      if r_8 = 0 then
        some (x4, place)
      else
        nm (((10 * x4) + (tape place.toNatClampNeg)) - 48) fun y_10 =>
        k y_10 (place + 1)
def f_X0_number_L37 (x3 : Int32) (typed : Int32) (tape : Nat → Int32) : Nat → Int32 → Int32 → Option (Int32 × Int32) := lpf2 (t_X0_number_L37 x3 typed tape)
def f_X0_number (x1 : Int32) (x2 : Int32) (typed : Int32) (place : Int32) (tape : Nat → Int32) : Option (Int32 × Int32) :=
  b2 (f_X0_here typed place tape) fun r_1 place_2 =>
  b1 (f_X0_in r_1.toInt64 48 57) fun r_3 =>
  if r_3 = 0 then
    none
  else
    b2 (f_X0_number_L37 place_2 typed tape FU 0 place_2) fun x4_11 place_12 =>
    b1 (f_X0_in x4_11.toInt64 x1.toInt64 x2.toInt64) fun r_13 =>
    if r_13 = 0 then
      none
    else
      some (x4_11, place_12)
def t_X0_numberE_L37 (x3 : Int32) (typed : Int32) (tape : Nat → Int32) (k : Int32 → Int32 → Option (Int32 × Int32)) (x4 : Int32) (place : Int32) : Option (Int32 × Int32) :=
  if typed ≤ place then
    some (x4, place)
  else
    if (x3 + 2) ≤ place then
      some (x4, place)
    else
      if place < 0 ∨ 90 ≤ place.toNatClampNeg then none else
      b1 (f_X0_in ((tape place.toNatClampNeg).toInt64) 48 57) fun r_8 =>
      if r_8 = 0 then
        some (x4, place)
      else
        nm (((10 * x4) + (tape place.toNatClampNeg)) - 48) fun y_10 =>
        k y_10 (place + 1)
def f_X0_numberE_L37 (x3 : Int32) (typed : Int32) (tape : Nat → Int32) : Nat → Int32 → Int32 → Option (Int32 × Int32) := lpf2 (t_X0_numberE_L37 x3 typed tape)
def e_X0_number (x1 : Int32) (x2 : Int32) (typed : Int32) (place : Int32) (tape : Nat → Int32) : Option (Int32 × Int32) :=
  b2 (f_X0_here typed place tape) fun r_1 place_2 =>
  b1 (f_X0_in r_1.toInt64 48 57) fun r_3 =>
  if r_3 = 0 then
    some (place_2, place_2)
  else
    b2 (f_X0_numberE_L37 place_2 typed tape FU 0 place_2) fun x4_11 place_12 =>
    b1 (f_X0_in x4_11.toInt64 x1.toInt64 x2.toInt64) fun r_13 =>
    if r_13 = 0 then
      some (place_2, place_12)
    else
      none
def f_X0_readsPerson (x1 : Int32) (typed : Int32) (place : Int32) (tape : Nat → Int32) (read : Nat → Int32) : Option (Int32 × (Nat → Int32)) :=
  b2 (f_X0_here typed place tape) fun r_1 place_2 =>
  b2 (
    if r_1 = 0 then
      some ((-4), place_2)
    else
      b2 (f_X0_here typed place_2 tape) fun r_9 place_10 =>
      b1 (f_J5_indexOf r_9) fun r_11 =>
      some (r_11, place_10)
   : Option (Int32 × Int32)) fun z_7 place_8 =>
  b1 (
    if z_7 < 0 then
      some 0
    else
      some 1
   : Option (Int32)) fun z_13 =>
  b1 (f_X0_must z_13 place_8) fun place_14 =>
  if x1 < 0 ∨ 40 ≤ x1.toNatClampNeg then none else
  b2 (f_X0_number 1 30 typed place_14 tape) fun r_16 place_17 =>
  if (x1 + 1) < 0 ∨ 40 ≤ (x1 + 1).toNatClampNeg then none else
  b2 (f_X0_here typed place_17 tape) fun r_19 place_20 =>
  b1 (
    if r_19 = 126 then
      some 1
    else
      some 0
   : Option (Int32)) fun z_22 =>
  b2 (
    if z_22 = 0 then
      b2 (f_X0_here typed place_20 tape) fun r_29 place_30 =>
      if r_29 = 64 then
        some (1, place_30)
      else
        some (0, place_30)
    else
      some (1, place_20)
   : Option (Int32 × Int32)) fun z_27 place_28 =>
  b1 (f_X0_must z_27 place_28) fun place_32 =>
  if z_22 = 0 then
    b2 (f_X0_number 0 99 typed place_32 tape) fun r_34 place_35 =>
    if (x1 + 2) < 0 ∨ 40 ≤ (x1 + 2).toNatClampNeg then none else
    some (place_35, upd (upd (upd read x1.toNatClampNeg z_7) (x1 + 1).toNatClampNeg r_16) (x1 + 2).toNatClampNeg r_34)
  else
    if (x1 + 2) < 0 ∨ 40 ≤ (x1 + 2).toNatClampNeg then none else
    some (place_32, upd (upd (upd read x1.toNatClampNeg z_7) (x1 + 1).toNatClampNeg r_16) (x1 + 2).toNatClampNeg (-4))
def e_X0_readsPerson (x1 : Int32) (typed : Int32) (place : Int32) (tape : Nat → Int32) (read : Nat → Int32) : Option (Int32 × Int32 × (Nat → Int32)) :=
  b2 (f_X0_here typed place tape) fun r_1 place_2 =>
  b2 (
    if r_1 = 0 then
      some ((-4), place_2)
    else
      b2 (f_X0_here typed place_2 tape) fun r_9 place_10 =>
      b1 (f_J5_indexOf r_9) fun r_11 =>
      some (r_11, place_10)
   : Option (Int32 × Int32)) fun z_7 place_8 =>
  b1 (
    if z_7 < 0 then
      some 0
    else
      some 1
   : Option (Int32)) fun z_13 =>
  ox (f_X0_must z_13 place_8) (e_X0_must z_13 place_8) (fun z =>
  b1 (some z) fun place_14 =>
  if x1 < 0 ∨ 40 ≤ x1.toNatClampNeg then none else
  ox (f_X0_number 1 30 typed place_14 tape) (e_X0_number 1 30 typed place_14 tape) (fun z =>
  b2 (some z) fun r_18 place_19 =>
  if (x1 + 1) < 0 ∨ 40 ≤ (x1 + 1).toNatClampNeg then none else
  b2 (f_X0_here typed place_19 tape) fun r_23 place_24 =>
  b1 (
    if r_23 = 126 then
      some 1
    else
      some 0
   : Option (Int32)) fun z_26 =>
  b2 (
    if z_26 = 0 then
      b2 (f_X0_here typed place_24 tape) fun r_33 place_34 =>
      if r_33 = 64 then
        some (1, place_34)
      else
        some (0, place_34)
    else
      some (1, place_24)
   : Option (Int32 × Int32)) fun z_31 place_32 =>
  ox (f_X0_must z_31 place_32) (e_X0_must z_31 place_32) (fun z =>
  b1 (some z) fun place_36 =>
  if z_26 = 0 then
    ox (f_X0_number 0 99 typed place_36 tape) (e_X0_number 0 99 typed place_36 tape) (fun z =>
    b2 (some z) fun r_40 place_41 =>
    if (x1 + 2) < 0 ∨ 40 ≤ (x1 + 2).toNatClampNeg then none else
    none) (fun z =>
    b2 (some z) fun v_42 place_43 =>
    some (v_42, place_43, upd (upd read x1.toNatClampNeg z_7) (x1 + 1).toNatClampNeg r_18))
  else
    if (x1 + 2) < 0 ∨ 40 ≤ (x1 + 2).toNatClampNeg then none else
    none) (fun z =>
  b2 (some z) fun v_37 place_38 =>
  some (v_37, place_38, upd (upd read x1.toNatClampNeg z_7) (x1 + 1).toNatClampNeg r_18))) (fun z =>
  b2 (some z) fun v_20 place_21 =>
  some (v_20, place_21, upd read x1.toNatClampNeg z_7))) (fun z =>
  b2 (some z) fun v_15 place_16 =>
  some (v_15, place_16, read))
def t_X0_readsPeople_L2 (typed : Int32) (tape : Nat → Int32) (k : Int32 → Int32 → (Nat → Int32) → Option (Int32 × Int32 × (Nat → Int32))) (x1 : Int32) (place : Int32) (read : Nat → Int32) : Option (Int32 × Int32 × (Nat → Int32)) :=
  b2 (f_X0_readsPerson (5 * x1) typed place tape read) fun place_1 read_2 =>
  b2 (f_X0_here typed place_1 tape) fun r_3 place_4 =>
  if r_3 = 0 then
    some ((x1 + 1), place_4, read_2)
  else
    b2 (f_X0_here typed place_4 tape) fun r_6 place_7 =>
    b1 (
      if r_6 = 45 then
        if 8 ≤ (x1 + 1) then
          some 0
        else
          some 1
      else
        some 0
     : Option (Int32)) fun z_10 =>
    b1 (f_X0_must z_10 place_7) fun place_12 =>
    b2 (f_X0_number 1 20 typed place_12 tape) fun r_13 place_14 =>
    if ((5 * (x1 + 1)) + 3) < 0 ∨ 40 ≤ ((5 * (x1 + 1)) + 3).toNatClampNeg then none else
    b2 (f_X0_here typed place_14 tape) fun r_16 place_17 =>
    b1 (
      if r_16 = 120 then
        some 1
      else
        some 0
     : Option (Int32)) fun z_19 =>
    b1 (f_X0_must z_19 place_17) fun place_20 =>
    b2 (f_X0_here typed place_20 tape) fun r_21 place_22 =>
    b1 (f_X0_in ((r_21 - 48).toInt64) 1 9) fun r_23 =>
    b1 (f_X0_must r_23 place_22) fun place_24 =>
    if ((5 * (x1 + 1)) + 4) < 0 ∨ 40 ≤ ((5 * (x1 + 1)) + 4).toNatClampNeg then none else
    k (x1 + 1) place_24 (upd (upd read_2 ((5 * (x1 + 1)) + 3).toNatClampNeg r_13) ((5 * (x1 + 1)) + 4).toNatClampNeg (r_21 - 48))
def f_X0_readsPeople_L2 (typed : Int32) (tape : Nat → Int32) : Nat → Int32 → Int32 → (Nat → Int32) → Option (Int32 × Int32 × (Nat → Int32)) := lpf3 (t_X0_readsPeople_L2 typed tape)
def f_X0_readsPeople (typed : Int32) (place : Int32) (tape : Nat → Int32) (read : Nat → Int32) : Option (Int32 × Int32 × (Nat → Int32)) :=
  b3 (f_X0_readsPeople_L2 typed tape FU 0 place read) fun x1_26 place_27 read_28 =>
  some (x1_26, place_27, read_28)
def t_X0_readsPeopleE_L2 (typed : Int32) (tape : Nat → Int32) (k : Int32 → Int32 → (Nat → Int32) → Option (Int32 × Int32 × (Nat → Int32))) (x1 : Int32) (place : Int32) (read : Nat → Int32) : Option (Int32 × Int32 × (Nat → Int32)) :=
  ox (f_X0_readsPerson (5 * x1) typed place tape read) (e_X0_readsPerson (5 * x1) typed place tape read) (fun z =>
  b2 (some z) fun place_1 read_2 =>
  b2 (f_X0_here typed place_1 tape) fun r_6 place_7 =>
  if r_6 = 0 then
    none
  else
    b2 (f_X0_here typed place_7 tape) fun r_9 place_10 =>
    b1 (
      if r_9 = 45 then
        if 8 ≤ (x1 + 1) then
          some 0
        else
          some 1
      else
        some 0
     : Option (Int32)) fun z_13 =>
    ox (f_X0_must z_13 place_10) (e_X0_must z_13 place_10) (fun z =>
    b1 (some z) fun place_15 =>
    ox (f_X0_number 1 20 typed place_15 tape) (e_X0_number 1 20 typed place_15 tape) (fun z =>
    b2 (some z) fun r_18 place_19 =>
    if ((5 * (x1 + 1)) + 3) < 0 ∨ 40 ≤ ((5 * (x1 + 1)) + 3).toNatClampNeg then none else
    b2 (f_X0_here typed place_19 tape) fun r_23 place_24 =>
    b1 (
      if r_23 = 120 then
        some 1
      else
        some 0
     : Option (Int32)) fun z_26 =>
    ox (f_X0_must z_26 place_24) (e_X0_must z_26 place_24) (fun z =>
    b1 (some z) fun place_27 =>
    b2 (f_X0_here typed place_27 tape) fun r_30 place_31 =>
    b1 (f_X0_in ((r_30 - 48).toInt64) 1 9) fun r_32 =>
    ox (f_X0_must r_32 place_31) (e_X0_must r_32 place_31) (fun z =>
    b1 (some z) fun place_33 =>
    if ((5 * (x1 + 1)) + 4) < 0 ∨ 40 ≤ ((5 * (x1 + 1)) + 4).toNatClampNeg then none else
    k (x1 + 1) place_33 (upd (upd read_2 ((5 * (x1 + 1)) + 3).toNatClampNeg r_18) ((5 * (x1 + 1)) + 4).toNatClampNeg (r_30 - 48))) (fun z =>
    b2 (some z) fun v_34 place_35 =>
    some (v_34, place_35, upd read_2 ((5 * (x1 + 1)) + 3).toNatClampNeg r_18))) (fun z =>
    b2 (some z) fun v_28 place_29 =>
    some (v_28, place_29, upd read_2 ((5 * (x1 + 1)) + 3).toNatClampNeg r_18))) (fun z =>
    b2 (some z) fun v_20 place_21 =>
    some (v_20, place_21, read_2))) (fun z =>
    b2 (some z) fun v_16 place_17 =>
    some (v_16, place_17, read_2))) (fun z =>
  b3 (some z) fun v_3 place_4 read_5 =>
  some (v_3, place_4, read_5))
def f_X0_readsPeopleE_L2 (typed : Int32) (tape : Nat → Int32) : Nat → Int32 → Int32 → (Nat → Int32) → Option (Int32 × Int32 × (Nat → Int32)) := lpf3 (t_X0_readsPeopleE_L2 typed tape)
def e_X0_readsPeople (typed : Int32) (place : Int32) (tape : Nat → Int32) (read : Nat → Int32) : Option (Int32 × Int32 × (Nat → Int32)) :=
  f_X0_readsPeopleE_L2 typed tape FU 0 place read
def t_X0_street_L86 (x2 : Int32) (read : Nat → Int32) (k : Int32 → Int32 → Int32 → (Nat → Int32) → (Nat → Int32) → (Nat → Int32) → (Nat → Int32) → (Nat → Int32) → Option (Int32 × Int32 × (Nat → Int32) × (Nat → Int32) × (Nat → Int32) × (Nat → Int32) × (Nat → Int32))) (x3 : Int32) (town_n : Int32) (town_holders : Int32) (town_kind : Nat → Int32) (town_strength : Nat → Int32) (town_place : Nat → Int32) (town_length : Nat → Int32) (town_gives : Nat → Int32) : Option (Int32 × Int32 × (Nat → Int32) × (Nat → Int32) × (Nat → Int32) × (Nat → Int32) × (Nat → Int32)) :=
  if x2 ≤ x3 then
    some (town_n, town_holders, town_kind, town_strength, town_place, town_length, town_gives)
  else
    if (5 * x3) < 0 ∨ 40 ≤ (5 * x3).toNatClampNeg then none else
    if ((5 * x3) + 1) < 0 ∨ 40 ≤ ((5 * x3) + 1).toNatClampNeg then none else
    if ((5 * x3) + 2) < 0 ∨ 40 ≤ ((5 * x3) + 2).toNatClampNeg then none else
    b1 (f_J2_max 0 (read ((5 * x3) + 2).toNatClampNeg)) fun r_27 =>
    if ((5 * x3) + 3) < 0 ∨ 40 ≤ ((5 * x3) + 3).toNatClampNeg then none else
    if ((5 * x3) + 4) < 0 ∨ 40 ≤ ((5 * x3) + 4).toNatClampNeg then none else
    b7 (f_X0_comes (read (5 * x3).toNatClampNeg) (read ((5 * x3) + 1).toNatClampNeg) r_27 (read ((5 * x3) + 3).toNatClampNeg) (read ((5 * x3) + 4).toNatClampNeg) town_n town_holders town_kind town_strength town_place town_length town_gives) fun town_n_30 town_holders_31 town_kind_32 town_strength_33 town_place_34 town_length_35 town_gives_36 =>
    if (read ((5 * x3) + 2).toNatClampNeg) = (-4) then
      b1 (f_X6_lets x3 town_holders_31) fun town_holders_38 =>
      k (x3 + 1) town_n_30 town_holders_38 town_kind_32 town_strength_33 town_place_34 town_length_35 town_gives_36
    else
      k (x3 + 1) town_n_30 town_holders_31 town_kind_32 town_strength_33 town_place_34 town_length_35 town_gives_36
def f_X0_street_L86 (x2 : Int32) (read : Nat → Int32) : Nat → Int32 → Int32 → Int32 → (Nat → Int32) → (Nat → Int32) → (Nat → Int32) → (Nat → Int32) → (Nat → Int32) → Option (Int32 × Int32 × (Nat → Int32) × (Nat → Int32) × (Nat → Int32) × (Nat → Int32) × (Nat → Int32)) := lpf8 (t_X0_street_L86 x2 read)
def f_X0_street (Us : List TV) (falls : Int32) (tears : Int32) (typed : Int32) (town_n : Int32) (town_holders : Int32) (town_cuts : Int32) (town_hour : Int32) (town_bears : Int32) (town_kind : Nat → Int32) (town_strength : Nat → Int32) (town_place : Nat → Int32) (town_length : Nat → Int32) (town_gives : Nat → Int32) (town_over : Nat → Int32) (town_under : Nat → Int32) (fell : Nat → Int32) (tape : Nat → Int32) (read : Nat → Int32) : Option (Int32 × Int32 × Int32 × Int32 × Int32 × Int32 × Int32 × Int32 × Int32 × Int32 × (Nat → Int32) × (Nat → Int32) × (Nat → Int32) × (Nat → Int32) × (Nat → Int32) × (Nat → Int32) × (Nat → Int32) × (Nat → Int32) × (Nat → Int32) × List TV) :=
  ox (f_X0_number 1 60 typed 0 tape) (e_X0_number 1 60 typed 0 tape) (fun z =>
  b2 (some z) fun r_1 place_2 =>
  b2 (f_X0_here typed place_2 tape) fun r_6 place_7 =>
  b1 (
    if r_6 = 58 then
      some 1
    else
      some 0
   : Option (Int32)) fun z_9 =>
  ox (f_X0_must z_9 place_7) (e_X0_must z_9 place_7) (fun z =>
  b1 (some z) fun place_10 =>
  ox (f_X0_readsPeople typed place_10 tape read) (e_X0_readsPeople typed place_10 tape read) (fun z =>
  b3 (some z) fun r_14 place_15 read_16 =>
  b1 (f_dq_clear Us) fun Us_21 =>
  b7 (f_X0_street_L86 r_14 read_16 FU 0 0 0 town_kind town_strength town_place town_length town_gives) fun town_n_39 town_holders_40 town_kind_41 town_strength_42 town_place_43 town_length_44 town_gives_45 =>
  b8 (f_X0_settles fell town_n_39 town_holders_40 0 8 r_1 town_kind_41 town_strength_42 town_place_43 town_length_44 town_gives_45 town_over town_under) fun r_46 falls_47 tears_48 fell_49 town_holders_50 town_cuts_51 town_over_52 town_under_53 =>
  some (r_14, falls_47, tears_48, 0, place_15, town_n_39, town_holders_50, town_cuts_51, 8, r_1, town_kind_41, town_strength_42, town_place_43, town_length_44, town_gives_45, town_over_52, town_under_53, fell_49, read_16, Us_21)) (fun z =>
  b3 (some z) fun v_17 place_18 read_19 =>
  some (((-20) - v_17), falls, tears, 0, place_18, town_n, town_holders, town_cuts, town_hour, town_bears, town_kind, town_strength, town_place, town_length, town_gives, town_over, town_under, fell, read_19, Us))) (fun z =>
  b2 (some z) fun v_11 place_12 =>
  some (((-20) - v_11), falls, tears, 0, place_12, town_n, town_holders, town_cuts, town_hour, town_bears, town_kind, town_strength, town_place, town_length, town_gives, town_over, town_under, fell, read, Us))) (fun z =>
  b2 (some z) fun v_3 place_4 =>
  some (((-20) - v_3), falls, tears, 0, place_4, town_n, town_holders, town_cuts, town_hour, town_bears, town_kind, town_strength, town_place, town_length, town_gives, town_over, town_under, fell, read, Us))
set_option maxHeartbeats 4000000 in
set_option maxRecDepth 100000 in
theorem ct_X0_must {l : Launch} {D : va_G} {E : Ety} {a a_kinds a_town a_tried a_fell a_tape a_read a_undos a_kept a_keptUndos a_sheets a_taken : Nat} {x1 : Int32} {falls : Int32} {tears : Int32} {typed : Int32} {place : Int32} {isKept : Int32} {o_place : Int32} (hf : f_X0_must x1 place = some o_place) : Ct l yX0_must cX0_must 2 none 0 0 0 0 D E [.ref a, .int x1] [(a, .inr (0, [.ref a_kinds, .ref a_town, .ref a_tried, .ref a_fell, .int falls, .int tears, .ref a_tape, .int typed, .int place, .ref a_read, .ref a_undos, .ref a_kept, .ref a_keptUndos, .int isKept, .ref a_sheets, .ref a_taken]))] (Pn none [(a, .inr (0, [.ref a_kinds, .ref a_town, .ref a_tried, .ref a_fell, .int falls, .int tears, .ref a_tape, .int typed, .int o_place, .ref a_read, .ref a_undos, .ref a_kept, .ref a_keptUndos, .int isKept, .ref a_sheets, .ref a_taken]))]) := by
  refine ct_of (own := RX0) (plainFor_of_name (by decide)) rfl (fle rfl) rfl ?_
  intro X hl hD hE hnL hXF h hR hF hnm
  subst hl; subst hD; subst hE
  have hL : ∀ i, i < 2 → i < X.nL := fun i hi => by rw [hnL]; exact hi
  unfold f_X0_must at hf
  refine g_iload_n h 1 dX0_must_0 rfl rfl ?_
  refine g_if_ne (tgt := 16) h dX0_must_1 rfl hf (fun c1 hf => ?_) (fun c1 hf => ?_)
  · exact nomatch hf
  · refine g_aload_n h 0 dX0_must_16 rfl rfl ?_
    refine g_dup h dX0_must_17 rfl ?_
    refine g_get (ci := 0) (v := .int place) h in_X0 0 8 rfl rfl (fle rfl) rfl q1119 rfl dX0_must_18 ?_
    refine g_iconst (v := 1) h dX0_must_21 kiconst_1 ?_
    refine g_iadd h dX0_must_22 ?_
    refine g_put (ci := 0) (ty := tyX0 8) (ws' := [(a, .inr (0, [.ref a_kinds, .ref a_town, .ref a_tried, .ref a_fell, .int falls, .int tears, .ref a_tape, .int typed, .int (place + 1), .ref a_read, .ref a_undos, .ref a_kept, .ref a_keptUndos, .int isKept, .ref a_sheets, .ref a_taken]))]) h in_X0 tyX0 tyX0_ok nmX0 0 8 rfl rfl (fle rfl) ⟨rfl, rfl⟩ q1119 rfl rfl rfl (fle rfl) rfl dX0_must_23 ?_
    obtain rfl := sj1 hf
    exact g_vret h hF [0] rfl rfl ⟨rfl, rfl⟩ (fle rfl) (fle rfl) dX0_must_26
set_option maxHeartbeats 4000000 in
set_option maxRecDepth 100000 in
theorem ctT_X0_must {l : Launch} {D : va_G} {E : Ety} {a a_kinds a_town a_tried a_fell a_tape a_read a_undos a_kept a_keptUndos a_sheets a_taken : Nat} {x1 : Int32} {falls : Int32} {tears : Int32} {typed : Int32} {place : Int32} {isKept : Int32} {v_ : Int32} {o_place : Int32} (hfl : l.flags = flags0) (hf : e_X0_must x1 place = some (v_, o_place)) : CtT l yX0_must cX0_must 2 none 5 120 1 7 D E [.ref a, .int x1] [(a, .inr (0, [.ref a_kinds, .ref a_town, .ref a_tried, .ref a_fell, .int falls, .int tears, .ref a_tape, .int typed, .int place, .ref a_read, .ref a_undos, .ref a_kept, .ref a_keptUndos, .int isKept, .ref a_sheets, .ref a_taken]))] (fun C x w => C = "OneElastic$Fault" ∧ w = [(a, .inr (0, [.ref a_kinds, .ref a_town, .ref a_tried, .ref a_fell, .int falls, .int tears, .ref a_tape, .int typed, .int o_place, .ref a_read, .ref a_undos, .ref a_kept, .ref a_keptUndos, .int isKept, .ref a_sheets, .ref a_taken]))] ++ [(x, .inr (13, [.int v_]))]) := by
  refine ct_ofT (own := RX0) (plainFor_of_name (by decide)) rfl (fle rfl) rfl ?_
  intro X hl hD hE hnL hXF h hR hF hx
  subst hl; subst hD; subst hE
  have hL : ∀ i, i < 2 → i < X.nL := fun i hi => by rw [hnL]; exact hi
  unfold e_X0_must at hf
  refine g_iload_n h 1 dX0_must_0 rfl rfl ?_
  refine g_if_ne (tgt := 16) h dX0_must_1 rfl hf (fun c1 hf => ?_) (fun c1 hf => ?_)
  · refine t_fault (w := [(a, .inr (0, [.ref a_kinds, .ref a_town, .ref a_tried, .ref a_fell, .int falls, .int tears, .ref a_tape, .int typed, .int place, .ref a_read, .ref a_undos, .ref a_kept, .ref a_keptUndos, .int isKept, .ref a_sheets, .ref a_taken]))]) (pc2 := 12) h hR hfl hx hF (fle rfl) (fle rfl) (fle rfl) (fle rfl) (fle rfl) [0] rfl rfl (fun x => ?_) dX0_must_4 dX0_must_7 (fun H locs ls q ce sl hP hl kW => lv_aload_n h.x h.b dX0_must_8 rfl (lv_at hl 0 rfl) (va_get (v := .int place) h.x h.b h.ts in_X0 h.own h.k hP 0 (apL rfl) (cl := vwCl) (C := RX0) (T := TX0) (N := 16) rfl 8 (fle rfl) (h.ts _ q1119) (fun _ e => e) rfl dX0_must_9 kW)) dX0_must_12 dX0_must_15
    obtain ⟨rfl, rfl⟩ := sj2 hf
    exact ⟨rfl, rfl⟩
  · refine g_aload_n h 0 dX0_must_16 rfl rfl ?_
    refine g_dup h dX0_must_17 rfl ?_
    refine g_get (ci := 0) (v := .int place) h in_X0 0 8 rfl rfl (fle rfl) rfl q1119 rfl dX0_must_18 ?_
    refine g_iconst (v := 1) h dX0_must_21 kiconst_1 ?_
    refine g_iadd h dX0_must_22 ?_
    refine g_put (ci := 0) (ty := tyX0 8) (ws' := [(a, .inr (0, [.ref a_kinds, .ref a_town, .ref a_tried, .ref a_fell, .int falls, .int tears, .ref a_tape, .int typed, .int (place + 1), .ref a_read, .ref a_undos, .ref a_kept, .ref a_keptUndos, .int isKept, .ref a_sheets, .ref a_taken]))]) h in_X0 tyX0 tyX0_ok nmX0 0 8 rfl rfl (fle rfl) ⟨rfl, rfl⟩ q1119 rfl rfl rfl (fle rfl) rfl dX0_must_23 ?_
    exact nomatch hf
set_option maxHeartbeats 4000000 in
set_option maxRecDepth 100000 in
theorem w_X0_number_L37 {X : Cx} {a a_fell a_kept a_keptUndos a_kinds a_read a_sheets a_taken a_tape a_town a_tried a_undos : Nat} {x1 : Int32} {x2 : Int32} {x3 : Int32} {falls : Int32} {tears : Int32} {typed : Int32} {isKept : Int32} {tape : Nat → Int32} {ce sl : Nat} (h : Ok X cX0_number RX0) (hR : Rm X 1 25 0 0) (hL : ∀ i, i < 5 → i < X.nL) (hce : ce ≤ 0) (hsl : sl ≤ 0) : ∀ (n0 : Nat) (x4 : Int32) (place : Int32) {o_x4 : Int32} {o_place : Int32}, f_X0_number_L37 x3 typed tape n0 x4 place = some (o_x4, o_place) → (G X [(a, .inr (0, [.ref a_kinds, .ref a_town, .ref a_tried, .ref a_fell, .int falls, .int tears, .ref a_tape, .int typed, .int o_place, .ref a_read, .ref a_undos, .ref a_kept, .ref a_keptUndos, .int isKept, .ref a_sheets, .ref a_taken])), (a_tape, .inl (X.E 0, 90, .inl tape))] [(1, .int x1), (2, .int x2), (3, .int x3), (4, .int o_x4)] ce sl 110 []) → G X [(a, .inr (0, [.ref a_kinds, .ref a_town, .ref a_tried, .ref a_fell, .int falls, .int tears, .ref a_tape, .int typed, .int place, .ref a_read, .ref a_undos, .ref a_kept, .ref a_keptUndos, .int isKept, .ref a_sheets, .ref a_taken])), (a_tape, .inl (X.E 0, 90, .inl tape))] [(0, .ref a), (1, .int x1), (2, .int x2), (3, .int x3), (4, .int x4)] ce sl 37 [] := by
  intro n0
  induction n0 with
  | zero => intro x4 place o_x4 o_place hf; exact nomatch (show (none : Option _) = some _ from hf)
  | succ n0 ih =>
    intro x4 place o_x4 o_place hf k0
    replace hf : t_X0_number_L37 x3 typed tape (f_X0_number_L37 x3 typed tape n0) x4 place = some (o_x4, o_place) := hf
    unfold t_X0_number_L37 at hf
    refine g_aload_n h 0 dX0_number_37 rfl rfl ?_
    refine g_get (ci := 0) (v := .int place) h in_X0 0 8 rfl rfl (fle rfl) rfl q1119 rfl dX0_number_38 ?_
    refine g_aload_n h 0 dX0_number_41 rfl rfl ?_
    refine g_get (ci := 0) (v := .int typed) h in_X0 0 7 rfl rfl (fle rfl) rfl q1118 rfl dX0_number_42 ?_
    refine g_icmp_ge (tgt := 110) h dX0_number_45 rfl hf (fun c5 hf => ?_) (fun c5 hf => ?_)
    · obtain ⟨rfl, rfl⟩ := sj2 hf
      exact G.lsub [1, 2, 3, 4] rfl k0
    · refine g_aload_n h 0 dX0_number_48 rfl rfl ?_
      refine g_get (ci := 0) (v := .int place) h in_X0 0 8 rfl rfl (fle rfl) rfl q1119 rfl dX0_number_49 ?_
      refine g_iload_n h 3 dX0_number_52 rfl rfl ?_
      refine g_iconst (v := 2) h dX0_number_53 kiconst_2 ?_
      refine g_iadd h dX0_number_54 ?_
      refine g_icmp_ge (tgt := 110) h dX0_number_55 rfl hf (fun c6 hf => ?_) (fun c6 hf => ?_)
      · obtain ⟨rfl, rfl⟩ := sj2 hf
        exact G.lsub [1, 2, 3, 4] rfl k0
      · refine g_aload_n h 0 dX0_number_58 rfl rfl ?_
        refine g_get (ci := 0) (v := .ref a_tape) h in_X0 0 6 rfl rfl (fle rfl) rfl q1117 rfl dX0_number_59 ?_
        refine g_aload_n h 0 dX0_number_62 rfl rfl ?_
        refine g_get (ci := 0) (v := .int place) h in_X0 0 8 rfl rfl (fle rfl) rfl q1119 rfl dX0_number_63 ?_
        obtain ⟨g7, hf⟩ := gn hf
        refine g_baload h 1 rfl g7 dX0_number_66 ?_
        refine g_i2l h dX0_number_67 ?_
        refine g_ldc2 h q342 dX0_number_68 ?_
        refine g_ldc2 h q343 dX0_number_71 ?_
        obtain ⟨r_8, hv, hf⟩ := ob1 hf
        refine g_callS (n := 3) (As := [.long ((tape place.toNatClampNeg).toInt64), .long 48, .long 57]) (st := []) (wr := [(a, .inr (0, [.ref a_kinds, .ref a_town, .ref a_tried, .ref a_fell, .int falls, .int tears, .ref a_tape, .int typed, .int place, .ref a_read, .ref a_undos, .ref a_kept, .ref a_keptUndos, .int isKept, .ref a_sheets, .ref a_taken])), (a_tape, .inl (X.E 0, 90, .inl tape))]) (isC := []) (isR := [0, 1]) h hR (ct_X0_in (x0 := (tape place.toNatClampNeg).toInt64) (x2 := 48) (x4 := 57) hv) (lw_S q107 q108 q70 q109) (by decide +kernel) rfl ⟨rfl, rfl, rfl, rfl, by decide⟩ ⟨hce, hsl, fle rfl, fle rfl, fle rfl⟩ rfl dX0_number_74 (pin (perm := [0, 1]) (ws' := [(a, .inr (0, [.ref a_kinds, .ref a_town, .ref a_tried, .ref a_fell, .int falls, .int tears, .ref a_tape, .int typed, .int place, .ref a_read, .ref a_undos, .ref a_kept, .ref a_keptUndos, .int isKept, .ref a_sheets, .ref a_taken])), (a_tape, .inl (X.E 0, 90, .inl tape))]) (stk := [.int r_8]) rfl rfl rfl ?_)
        clear hv
        refine g_if_eq (tgt := 110) h dX0_number_77 rfl hf (fun c9 hf => ?_) (fun c9 hf => ?_)
        · obtain ⟨rfl, rfl⟩ := sj2 hf
          exact G.lsub [1, 2, 3, 4] rfl k0
        · refine g_bipush (v := 10) h dX0_number_80 kbipush_10 ?_
          refine g_iload h 4 dX0_number_82 rfl ?_
          refine g_imul h dX0_number_84 ?_
          refine g_aload_n h 0 dX0_number_85 rfl rfl ?_
          refine g_get (ci := 0) (v := .ref a_tape) h in_X0 0 6 rfl rfl (fle rfl) rfl q1117 rfl dX0_number_86 ?_
          refine g_aload_n h 0 dX0_number_89 rfl rfl ?_
          refine g_dup h dX0_number_90 rfl ?_
          refine g_get (ci := 0) (v := .int place) h in_X0 0 8 rfl rfl (fle rfl) rfl q1119 rfl dX0_number_91 ?_
          refine g_dup_x1 h dX0_number_94 rfl rfl ?_
          refine g_iconst (v := 1) h dX0_number_95 kiconst_1 ?_
          refine g_iadd h dX0_number_96 ?_
          refine g_put (ci := 0) (ty := tyX0 8) (ws' := [(a, .inr (0, [.ref a_kinds, .ref a_town, .ref a_tried, .ref a_fell, .int falls, .int tears, .ref a_tape, .int typed, .int (place + 1), .ref a_read, .ref a_undos, .ref a_kept, .ref a_keptUndos, .int isKept, .ref a_sheets, .ref a_taken])), (a_tape, .inl (X.E 0, 90, .inl tape))]) h in_X0 tyX0 tyX0_ok nmX0 0 8 rfl rfl (fle rfl) ⟨rfl, rfl⟩ q1119 rfl rfl rfl (fle rfl) rfl dX0_number_97 ?_
          refine g_baload h 1 rfl g7 dX0_number_100 ?_
          refine g_iadd h dX0_number_101 ?_
          refine g_bipush (v := 48) h dX0_number_102 kbipush_48 ?_
          refine g_isub h dX0_number_104 ?_
          refine nm_i (fun y_10 ey_10 => ?_)
          have hf := nm_at hf y_10 ey_10
          refine g_istore (lv' := [(4, .int y_10), (0, .ref a), (1, .int x1), (2, .int x2), (3, .int x3)]) h dX0_number_105 (hL 4 (fle rfl)) rfl ?_
          refine g_goto (tgt := 37) h dX0_number_107 rfl ?_
          exact G.lsub [1, 2, 3, 4, 0] rfl (ih _ _ hf k0)
set_option maxHeartbeats 4000000 in
set_option maxRecDepth 100000 in
theorem ct_X0_number {l : Launch} {D : va_G} {E : Ety} {a a_kinds a_town a_tried a_fell a_tape a_read a_undos a_kept a_keptUndos a_sheets a_taken : Nat} {x1 : Int32} {x2 : Int32} {falls : Int32} {tears : Int32} {typed : Int32} {place : Int32} {isKept : Int32} {tape : Nat → Int32} {r_ : Int32} {o_place : Int32} (hf : f_X0_number x1 x2 typed place tape = some (r_, o_place)) : Ct l yX0_number cX0_number 5 (some .int) 1 25 0 0 D E [.ref a, .int x1, .int x2] [(a, .inr (0, [.ref a_kinds, .ref a_town, .ref a_tried, .ref a_fell, .int falls, .int tears, .ref a_tape, .int typed, .int place, .ref a_read, .ref a_undos, .ref a_kept, .ref a_keptUndos, .int isKept, .ref a_sheets, .ref a_taken])), (a_tape, .inl (E 0, 90, .inl tape))] (Pn (some (.int r_)) [(a, .inr (0, [.ref a_kinds, .ref a_town, .ref a_tried, .ref a_fell, .int falls, .int tears, .ref a_tape, .int typed, .int o_place, .ref a_read, .ref a_undos, .ref a_kept, .ref a_keptUndos, .int isKept, .ref a_sheets, .ref a_taken])), (a_tape, .inl (E 0, 90, .inl tape))]) := by
  refine ct_of (own := RX0) (plainFor_of_name (by decide)) rfl (fle rfl) rfl ?_
  intro X hl hD hE hnL hXF h hR hF hnm
  subst hl; subst hD; subst hE
  have hL : ∀ i, i < 5 → i < X.nL := fun i hi => by rw [hnL]; exact hi
  unfold f_X0_number at hf
  refine g_aload_n h 0 dX0_number_0 rfl rfl ?_
  obtain ⟨r_1, place_2, hv, hf⟩ := ob2 hf
  refine g_callV (ci := 0) (q0 := 0) (n := 0) (As := []) (st := []) (wr := []) (isC := [0, 1]) (isR := []) h hR (ct_X0_here (a := a) (a_kinds := a_kinds) (a_town := a_town) (a_tried := a_tried) (a_fell := a_fell) (a_tape := a_tape) (a_read := a_read) (a_undos := a_undos) (a_kept := a_kept) (a_keptUndos := a_keptUndos) (a_sheets := a_sheets) (a_taken := a_taken) (falls := falls) (tears := tears) (typed := typed) (place := place) (isKept := isKept) (tape := tape) hv) rfl rfl (lw_V q338 q340 qs9 q70 q341) (by decide +kernel) rfl ⟨rfl, rfl, rfl, rfl, by decide⟩ ⟨fle rfl, fle rfl, fle rfl, fle rfl, fle rfl⟩ rfl dX0_number_1 (pin (perm := [0, 1]) (ws' := [(a, .inr (0, [.ref a_kinds, .ref a_town, .ref a_tried, .ref a_fell, .int falls, .int tears, .ref a_tape, .int typed, .int place_2, .ref a_read, .ref a_undos, .ref a_kept, .ref a_keptUndos, .int isKept, .ref a_sheets, .ref a_taken])), (a_tape, .inl (X.E 0, 90, .inl tape))]) (stk := [.int r_1]) rfl rfl rfl ?_)
  clear hv
  refine g_i2l h dX0_number_4 ?_
  refine g_ldc2 h q342 dX0_number_5 ?_
  refine g_ldc2 h q343 dX0_number_8 ?_
  obtain ⟨r_3, hv, hf⟩ := ob1 hf
  refine g_callS (n := 3) (As := [.long r_1.toInt64, .long 48, .long 57]) (st := []) (wr := [(a, .inr (0, [.ref a_kinds, .ref a_town, .ref a_tried, .ref a_fell, .int falls, .int tears, .ref a_tape, .int typed, .int place_2, .ref a_read, .ref a_undos, .ref a_kept, .ref a_keptUndos, .int isKept, .ref a_sheets, .ref a_taken])), (a_tape, .inl (X.E 0, 90, .inl tape))]) (isC := []) (isR := [0, 1]) h hR (ct_X0_in (x0 := r_1.toInt64) (x2 := 48) (x4 := 57) hv) (lw_S q107 q108 q70 q109) (by decide +kernel) rfl ⟨rfl, rfl, rfl, rfl, by decide⟩ ⟨fle rfl, fle rfl, fle rfl, fle rfl, fle rfl⟩ rfl dX0_number_11 (pin (perm := [0, 1]) (ws' := [(a, .inr (0, [.ref a_kinds, .ref a_town, .ref a_tried, .ref a_fell, .int falls, .int tears, .ref a_tape, .int typed, .int place_2, .ref a_read, .ref a_undos, .ref a_kept, .ref a_keptUndos, .int isKept, .ref a_sheets, .ref a_taken])), (a_tape, .inl (X.E 0, 90, .inl tape))]) (stk := [.int r_3]) rfl rfl rfl ?_)
  clear hv
  refine g_if_ne (tgt := 29) h dX0_number_14 rfl hf (fun c4 hf => ?_) (fun c4 hf => ?_)
  · exact nomatch hf
  · refine g_aload_n h 0 dX0_number_29 rfl rfl ?_
    refine g_get (ci := 0) (v := .int place_2) h in_X0 0 8 rfl rfl (fle rfl) rfl q1119 rfl dX0_number_30 ?_
    refine g_istore_n (lv' := [(3, .int place_2), (0, .ref a), (1, .int x1), (2, .int x2)]) h dX0_number_33 rfl (hL 3 (fle rfl)) rfl ?_
    refine g_iconst (v := 0) h dX0_number_34 kiconst_0 ?_
    refine g_istore (lv' := [(4, .int 0), (3, .int place_2), (0, .ref a), (1, .int x1), (2, .int x2)]) h dX0_number_35 (hL 4 (fle rfl)) rfl ?_
    refine G.lsub (lv' := [(0, .ref a), (1, .int x1), (2, .int x2), (3, .int place_2), (4, .int 0)]) [2, 3, 4, 1, 0] rfl ?_
    obtain ⟨x4_11, place_12, hv, hf⟩ := ob2 hf
    refine w_X0_number_L37 (x1 := x1) (x2 := x2) (x3 := place_2) (falls := falls) (tears := tears) (typed := typed) (isKept := isKept) (tape := tape) h hR hL (fle rfl) (fle rfl) FU _ _ hv ?_
    · clear hv
      refine g_iload h 3 dX0_number_110 rfl ?_
      refine g_i2l h dX0_number_112 ?_
      refine g_iload_n h 0 dX0_number_113 rfl rfl ?_
      refine g_i2l h dX0_number_114 ?_
      refine g_iload_n h 1 dX0_number_115 rfl rfl ?_
      refine g_i2l h dX0_number_116 ?_
      obtain ⟨r_13, hv, hf⟩ := ob1 hf
      refine g_callS (n := 3) (As := [.long x4_11.toInt64, .long x1.toInt64, .long x2.toInt64]) (st := []) (wr := [(a, .inr (0, [.ref a_kinds, .ref a_town, .ref a_tried, .ref a_fell, .int falls, .int tears, .ref a_tape, .int typed, .int place_12, .ref a_read, .ref a_undos, .ref a_kept, .ref a_keptUndos, .int isKept, .ref a_sheets, .ref a_taken])), (a_tape, .inl (X.E 0, 90, .inl tape))]) (isC := []) (isR := [0, 1]) h hR (ct_X0_in (x0 := x4_11.toInt64) (x2 := x1.toInt64) (x4 := x2.toInt64) hv) (lw_S q107 q108 q70 q109) (by decide +kernel) rfl ⟨rfl, rfl, rfl, rfl, by decide⟩ ⟨fle rfl, fle rfl, fle rfl, fle rfl, fle rfl⟩ rfl dX0_number_117 (pin (perm := [0, 1]) (ws' := [(a, .inr (0, [.ref a_kinds, .ref a_town, .ref a_tried, .ref a_fell, .int falls, .int tears, .ref a_tape, .int typed, .int place_12, .ref a_read, .ref a_undos, .ref a_kept, .ref a_keptUndos, .int isKept, .ref a_sheets, .ref a_taken])), (a_tape, .inl (X.E 0, 90, .inl tape))]) (stk := [.int r_13]) rfl rfl rfl ?_)
      clear hv
      refine g_if_ne (tgt := 132) h dX0_number_120 rfl hf (fun c14 hf => ?_) (fun c14 hf => ?_)
      · exact nomatch hf
      · refine g_iload h 3 dX0_number_132 rfl ?_
        obtain ⟨rfl, rfl⟩ := sj2 hf
        exact g_iret h hF [0, 1] rfl rfl ⟨rfl, rfl⟩ (fle rfl) (fle rfl) dX0_number_134
set_option maxHeartbeats 4000000 in
set_option maxRecDepth 100000 in
theorem w_X0_numberE_L37 {X : Cx} {a a_fell a_kept a_keptUndos a_kinds a_read a_sheets a_taken a_tape a_town a_tried a_undos : Nat} {x1 : Int32} {x2 : Int32} {x3 : Int32} {falls : Int32} {tears : Int32} {typed : Int32} {isKept : Int32} {tape : Nat → Int32} {ce sl : Nat} (h : Ok X cX0_number RX0) (hR : Rm X 5 120 1 7) (hL : ∀ i, i < 5 → i < X.nL) (hce : ce ≤ 1) (hsl : sl ≤ 7) : ∀ (n0 : Nat) (x4 : Int32) (place : Int32) {o_x4 : Int32} {o_place : Int32}, f_X0_numberE_L37 x3 typed tape n0 x4 place = some (o_x4, o_place) → (G X [(a, .inr (0, [.ref a_kinds, .ref a_town, .ref a_tried, .ref a_fell, .int falls, .int tears, .ref a_tape, .int typed, .int o_place, .ref a_read, .ref a_undos, .ref a_kept, .ref a_keptUndos, .int isKept, .ref a_sheets, .ref a_taken])), (a_tape, .inl (X.E 0, 90, .inl tape))] [(1, .int x1), (2, .int x2), (3, .int x3), (4, .int o_x4)] ce sl 110 []) → G X [(a, .inr (0, [.ref a_kinds, .ref a_town, .ref a_tried, .ref a_fell, .int falls, .int tears, .ref a_tape, .int typed, .int place, .ref a_read, .ref a_undos, .ref a_kept, .ref a_keptUndos, .int isKept, .ref a_sheets, .ref a_taken])), (a_tape, .inl (X.E 0, 90, .inl tape))] [(0, .ref a), (1, .int x1), (2, .int x2), (3, .int x3), (4, .int x4)] ce sl 37 [] := by
  intro n0
  induction n0 with
  | zero => intro x4 place o_x4 o_place hf; exact nomatch (show (none : Option _) = some _ from hf)
  | succ n0 ih =>
    intro x4 place o_x4 o_place hf k0
    replace hf : t_X0_numberE_L37 x3 typed tape (f_X0_numberE_L37 x3 typed tape n0) x4 place = some (o_x4, o_place) := hf
    unfold t_X0_numberE_L37 at hf
    refine g_aload_n h 0 dX0_number_37 rfl rfl ?_
    refine g_get (ci := 0) (v := .int place) h in_X0 0 8 rfl rfl (fle rfl) rfl q1119 rfl dX0_number_38 ?_
    refine g_aload_n h 0 dX0_number_41 rfl rfl ?_
    refine g_get (ci := 0) (v := .int typed) h in_X0 0 7 rfl rfl (fle rfl) rfl q1118 rfl dX0_number_42 ?_
    refine g_icmp_ge (tgt := 110) h dX0_number_45 rfl hf (fun c5 hf => ?_) (fun c5 hf => ?_)
    · obtain ⟨rfl, rfl⟩ := sj2 hf
      exact G.lsub [1, 2, 3, 4] rfl k0
    · refine g_aload_n h 0 dX0_number_48 rfl rfl ?_
      refine g_get (ci := 0) (v := .int place) h in_X0 0 8 rfl rfl (fle rfl) rfl q1119 rfl dX0_number_49 ?_
      refine g_iload_n h 3 dX0_number_52 rfl rfl ?_
      refine g_iconst (v := 2) h dX0_number_53 kiconst_2 ?_
      refine g_iadd h dX0_number_54 ?_
      refine g_icmp_ge (tgt := 110) h dX0_number_55 rfl hf (fun c6 hf => ?_) (fun c6 hf => ?_)
      · obtain ⟨rfl, rfl⟩ := sj2 hf
        exact G.lsub [1, 2, 3, 4] rfl k0
      · refine g_aload_n h 0 dX0_number_58 rfl rfl ?_
        refine g_get (ci := 0) (v := .ref a_tape) h in_X0 0 6 rfl rfl (fle rfl) rfl q1117 rfl dX0_number_59 ?_
        refine g_aload_n h 0 dX0_number_62 rfl rfl ?_
        refine g_get (ci := 0) (v := .int place) h in_X0 0 8 rfl rfl (fle rfl) rfl q1119 rfl dX0_number_63 ?_
        obtain ⟨g7, hf⟩ := gn hf
        refine g_baload h 1 rfl g7 dX0_number_66 ?_
        refine g_i2l h dX0_number_67 ?_
        refine g_ldc2 h q342 dX0_number_68 ?_
        refine g_ldc2 h q343 dX0_number_71 ?_
        obtain ⟨r_8, hv, hf⟩ := ob1 hf
        refine g_callS (n := 3) (As := [.long ((tape place.toNatClampNeg).toInt64), .long 48, .long 57]) (st := []) (wr := [(a, .inr (0, [.ref a_kinds, .ref a_town, .ref a_tried, .ref a_fell, .int falls, .int tears, .ref a_tape, .int typed, .int place, .ref a_read, .ref a_undos, .ref a_kept, .ref a_keptUndos, .int isKept, .ref a_sheets, .ref a_taken])), (a_tape, .inl (X.E 0, 90, .inl tape))]) (isC := []) (isR := [0, 1]) h hR (ct_X0_in (x0 := (tape place.toNatClampNeg).toInt64) (x2 := 48) (x4 := 57) hv) (lw_S q107 q108 q70 q109) (by decide +kernel) rfl ⟨rfl, rfl, rfl, rfl, by decide⟩ ⟨hce, hsl, fle rfl, fle rfl, fle rfl⟩ rfl dX0_number_74 (pin (perm := [0, 1]) (ws' := [(a, .inr (0, [.ref a_kinds, .ref a_town, .ref a_tried, .ref a_fell, .int falls, .int tears, .ref a_tape, .int typed, .int place, .ref a_read, .ref a_undos, .ref a_kept, .ref a_keptUndos, .int isKept, .ref a_sheets, .ref a_taken])), (a_tape, .inl (X.E 0, 90, .inl tape))]) (stk := [.int r_8]) rfl rfl rfl ?_)
        clear hv
        refine g_if_eq (tgt := 110) h dX0_number_77 rfl hf (fun c9 hf => ?_) (fun c9 hf => ?_)
        · obtain ⟨rfl, rfl⟩ := sj2 hf
          exact G.lsub [1, 2, 3, 4] rfl k0
        · refine g_bipush (v := 10) h dX0_number_80 kbipush_10 ?_
          refine g_iload h 4 dX0_number_82 rfl ?_
          refine g_imul h dX0_number_84 ?_
          refine g_aload_n h 0 dX0_number_85 rfl rfl ?_
          refine g_get (ci := 0) (v := .ref a_tape) h in_X0 0 6 rfl rfl (fle rfl) rfl q1117 rfl dX0_number_86 ?_
          refine g_aload_n h 0 dX0_number_89 rfl rfl ?_
          refine g_dup h dX0_number_90 rfl ?_
          refine g_get (ci := 0) (v := .int place) h in_X0 0 8 rfl rfl (fle rfl) rfl q1119 rfl dX0_number_91 ?_
          refine g_dup_x1 h dX0_number_94 rfl rfl ?_
          refine g_iconst (v := 1) h dX0_number_95 kiconst_1 ?_
          refine g_iadd h dX0_number_96 ?_
          refine g_put (ci := 0) (ty := tyX0 8) (ws' := [(a, .inr (0, [.ref a_kinds, .ref a_town, .ref a_tried, .ref a_fell, .int falls, .int tears, .ref a_tape, .int typed, .int (place + 1), .ref a_read, .ref a_undos, .ref a_kept, .ref a_keptUndos, .int isKept, .ref a_sheets, .ref a_taken])), (a_tape, .inl (X.E 0, 90, .inl tape))]) h in_X0 tyX0 tyX0_ok nmX0 0 8 rfl rfl (fle rfl) ⟨rfl, rfl⟩ q1119 rfl rfl rfl (fle rfl) rfl dX0_number_97 ?_
          refine g_baload h 1 rfl g7 dX0_number_100 ?_
          refine g_iadd h dX0_number_101 ?_
          refine g_bipush (v := 48) h dX0_number_102 kbipush_48 ?_
          refine g_isub h dX0_number_104 ?_
          refine nm_i (fun y_10 ey_10 => ?_)
          have hf := nm_at hf y_10 ey_10
          refine g_istore (lv' := [(4, .int y_10), (0, .ref a), (1, .int x1), (2, .int x2), (3, .int x3)]) h dX0_number_105 (hL 4 (fle rfl)) rfl ?_
          refine g_goto (tgt := 37) h dX0_number_107 rfl ?_
          exact G.lsub [1, 2, 3, 4, 0] rfl (ih _ _ hf k0)
set_option maxHeartbeats 4000000 in
set_option maxRecDepth 100000 in
theorem ctT_X0_number {l : Launch} {D : va_G} {E : Ety} {a a_kinds a_town a_tried a_fell a_tape a_read a_undos a_kept a_keptUndos a_sheets a_taken : Nat} {x1 : Int32} {x2 : Int32} {falls : Int32} {tears : Int32} {typed : Int32} {place : Int32} {isKept : Int32} {tape : Nat → Int32} {v_ : Int32} {o_place : Int32} (hfl : l.flags = flags0) (hf : e_X0_number x1 x2 typed place tape = some (v_, o_place)) : CtT l yX0_number cX0_number 5 (some .int) 5 120 1 7 D E [.ref a, .int x1, .int x2] [(a, .inr (0, [.ref a_kinds, .ref a_town, .ref a_tried, .ref a_fell, .int falls, .int tears, .ref a_tape, .int typed, .int place, .ref a_read, .ref a_undos, .ref a_kept, .ref a_keptUndos, .int isKept, .ref a_sheets, .ref a_taken])), (a_tape, .inl (E 0, 90, .inl tape))] (fun C x w => C = "OneElastic$Fault" ∧ w = [(a, .inr (0, [.ref a_kinds, .ref a_town, .ref a_tried, .ref a_fell, .int falls, .int tears, .ref a_tape, .int typed, .int o_place, .ref a_read, .ref a_undos, .ref a_kept, .ref a_keptUndos, .int isKept, .ref a_sheets, .ref a_taken])), (a_tape, .inl (E 0, 90, .inl tape))] ++ [(x, .inr (13, [.int v_]))]) := by
  refine ct_ofT (own := RX0) (plainFor_of_name (by decide)) rfl (fle rfl) rfl ?_
  intro X hl hD hE hnL hXF h hR hF hx
  subst hl; subst hD; subst hE
  have hL : ∀ i, i < 5 → i < X.nL := fun i hi => by rw [hnL]; exact hi
  unfold e_X0_number at hf
  refine g_aload_n h 0 dX0_number_0 rfl rfl ?_
  obtain ⟨r_1, place_2, hv, hf⟩ := ob2 hf
  refine g_callV (ci := 0) (q0 := 0) (n := 0) (As := []) (st := []) (wr := []) (isC := [0, 1]) (isR := []) h hR (ct_X0_here (a := a) (a_kinds := a_kinds) (a_town := a_town) (a_tried := a_tried) (a_fell := a_fell) (a_tape := a_tape) (a_read := a_read) (a_undos := a_undos) (a_kept := a_kept) (a_keptUndos := a_keptUndos) (a_sheets := a_sheets) (a_taken := a_taken) (falls := falls) (tears := tears) (typed := typed) (place := place) (isKept := isKept) (tape := tape) hv) rfl rfl (lw_V q338 q340 qs9 q70 q341) (by decide +kernel) rfl ⟨rfl, rfl, rfl, rfl, by decide⟩ ⟨fle rfl, fle rfl, fle rfl, fle rfl, fle rfl⟩ rfl dX0_number_1 (pin (perm := [0, 1]) (ws' := [(a, .inr (0, [.ref a_kinds, .ref a_town, .ref a_tried, .ref a_fell, .int falls, .int tears, .ref a_tape, .int typed, .int place_2, .ref a_read, .ref a_undos, .ref a_kept, .ref a_keptUndos, .int isKept, .ref a_sheets, .ref a_taken])), (a_tape, .inl (X.E 0, 90, .inl tape))]) (stk := [.int r_1]) rfl rfl rfl ?_)
  clear hv
  refine g_i2l h dX0_number_4 ?_
  refine g_ldc2 h q342 dX0_number_5 ?_
  refine g_ldc2 h q343 dX0_number_8 ?_
  obtain ⟨r_3, hv, hf⟩ := ob1 hf
  refine g_callS (n := 3) (As := [.long r_1.toInt64, .long 48, .long 57]) (st := []) (wr := [(a, .inr (0, [.ref a_kinds, .ref a_town, .ref a_tried, .ref a_fell, .int falls, .int tears, .ref a_tape, .int typed, .int place_2, .ref a_read, .ref a_undos, .ref a_kept, .ref a_keptUndos, .int isKept, .ref a_sheets, .ref a_taken])), (a_tape, .inl (X.E 0, 90, .inl tape))]) (isC := []) (isR := [0, 1]) h hR (ct_X0_in (x0 := r_1.toInt64) (x2 := 48) (x4 := 57) hv) (lw_S q107 q108 q70 q109) (by decide +kernel) rfl ⟨rfl, rfl, rfl, rfl, by decide⟩ ⟨fle rfl, fle rfl, fle rfl, fle rfl, fle rfl⟩ rfl dX0_number_11 (pin (perm := [0, 1]) (ws' := [(a, .inr (0, [.ref a_kinds, .ref a_town, .ref a_tried, .ref a_fell, .int falls, .int tears, .ref a_tape, .int typed, .int place_2, .ref a_read, .ref a_undos, .ref a_kept, .ref a_keptUndos, .int isKept, .ref a_sheets, .ref a_taken])), (a_tape, .inl (X.E 0, 90, .inl tape))]) (stk := [.int r_3]) rfl rfl rfl ?_)
  clear hv
  refine g_if_ne (tgt := 29) h dX0_number_14 rfl hf (fun c4 hf => ?_) (fun c4 hf => ?_)
  · refine t_fault (w := [(a, .inr (0, [.ref a_kinds, .ref a_town, .ref a_tried, .ref a_fell, .int falls, .int tears, .ref a_tape, .int typed, .int place_2, .ref a_read, .ref a_undos, .ref a_kept, .ref a_keptUndos, .int isKept, .ref a_sheets, .ref a_taken])), (a_tape, .inl (X.E 0, 90, .inl tape))]) (pc2 := 25) h hR hfl hx hF (fle rfl) (fle rfl) (fle rfl) (fle rfl) (fle rfl) [0, 1] rfl rfl (fun x => ?_) dX0_number_17 dX0_number_20 (fun H locs ls q ce sl hP hl kW => lv_aload_n h.x h.b dX0_number_21 rfl (lv_at hl 0 rfl) (va_get (v := .int place_2) h.x h.b h.ts in_X0 h.own h.k hP 0 (apL rfl) (cl := vwCl) (C := RX0) (T := TX0) (N := 16) rfl 8 (fle rfl) (h.ts _ q1119) (fun _ e => e) rfl dX0_number_22 kW)) dX0_number_25 dX0_number_28
    obtain ⟨rfl, rfl⟩ := sj2 hf
    exact ⟨rfl, rfl⟩
  · refine g_aload_n h 0 dX0_number_29 rfl rfl ?_
    refine g_get (ci := 0) (v := .int place_2) h in_X0 0 8 rfl rfl (fle rfl) rfl q1119 rfl dX0_number_30 ?_
    refine g_istore_n (lv' := [(3, .int place_2), (0, .ref a), (1, .int x1), (2, .int x2)]) h dX0_number_33 rfl (hL 3 (fle rfl)) rfl ?_
    refine g_iconst (v := 0) h dX0_number_34 kiconst_0 ?_
    refine g_istore (lv' := [(4, .int 0), (3, .int place_2), (0, .ref a), (1, .int x1), (2, .int x2)]) h dX0_number_35 (hL 4 (fle rfl)) rfl ?_
    refine G.lsub (lv' := [(0, .ref a), (1, .int x1), (2, .int x2), (3, .int place_2), (4, .int 0)]) [2, 3, 4, 1, 0] rfl ?_
    obtain ⟨x4_11, place_12, hv, hf⟩ := ob2 hf
    refine w_X0_numberE_L37 (x1 := x1) (x2 := x2) (x3 := place_2) (falls := falls) (tears := tears) (typed := typed) (isKept := isKept) (tape := tape) h hR hL (fle rfl) (fle rfl) FU _ _ hv ?_
    · clear hv
      refine g_iload h 3 dX0_number_110 rfl ?_
      refine g_i2l h dX0_number_112 ?_
      refine g_iload_n h 0 dX0_number_113 rfl rfl ?_
      refine g_i2l h dX0_number_114 ?_
      refine g_iload_n h 1 dX0_number_115 rfl rfl ?_
      refine g_i2l h dX0_number_116 ?_
      obtain ⟨r_13, hv, hf⟩ := ob1 hf
      refine g_callS (n := 3) (As := [.long x4_11.toInt64, .long x1.toInt64, .long x2.toInt64]) (st := []) (wr := [(a, .inr (0, [.ref a_kinds, .ref a_town, .ref a_tried, .ref a_fell, .int falls, .int tears, .ref a_tape, .int typed, .int place_12, .ref a_read, .ref a_undos, .ref a_kept, .ref a_keptUndos, .int isKept, .ref a_sheets, .ref a_taken])), (a_tape, .inl (X.E 0, 90, .inl tape))]) (isC := []) (isR := [0, 1]) h hR (ct_X0_in (x0 := x4_11.toInt64) (x2 := x1.toInt64) (x4 := x2.toInt64) hv) (lw_S q107 q108 q70 q109) (by decide +kernel) rfl ⟨rfl, rfl, rfl, rfl, by decide⟩ ⟨fle rfl, fle rfl, fle rfl, fle rfl, fle rfl⟩ rfl dX0_number_117 (pin (perm := [0, 1]) (ws' := [(a, .inr (0, [.ref a_kinds, .ref a_town, .ref a_tried, .ref a_fell, .int falls, .int tears, .ref a_tape, .int typed, .int place_12, .ref a_read, .ref a_undos, .ref a_kept, .ref a_keptUndos, .int isKept, .ref a_sheets, .ref a_taken])), (a_tape, .inl (X.E 0, 90, .inl tape))]) (stk := [.int r_13]) rfl rfl rfl ?_)
      clear hv
      refine g_if_ne (tgt := 132) h dX0_number_120 rfl hf (fun c14 hf => ?_) (fun c14 hf => ?_)
      · refine t_fault (w := [(a, .inr (0, [.ref a_kinds, .ref a_town, .ref a_tried, .ref a_fell, .int falls, .int tears, .ref a_tape, .int typed, .int place_12, .ref a_read, .ref a_undos, .ref a_kept, .ref a_keptUndos, .int isKept, .ref a_sheets, .ref a_taken])), (a_tape, .inl (X.E 0, 90, .inl tape))]) (pc2 := 128) h hR hfl hx hF (fle rfl) (fle rfl) (fle rfl) (fle rfl) (fle rfl) [0, 1] rfl rfl (fun x => ?_) dX0_number_123 dX0_number_126 (fun H locs ls q ce sl hP hl kW => lv_iload_n h.x h.b dX0_number_127 rfl (lv_at hl 2 rfl) kW) dX0_number_128 dX0_number_131
        obtain ⟨rfl, rfl⟩ := sj2 hf
        exact ⟨rfl, rfl⟩
      · refine g_iload h 3 dX0_number_132 rfl ?_
        exact nomatch hf
set_option maxHeartbeats 4000000 in
set_option maxRecDepth 100000 in
theorem ct_X0_readsPerson {l : Launch} {D : va_G} {E : Ety} {a a_kinds a_town a_tried a_fell a_tape a_read a_undos a_kept a_keptUndos a_sheets a_taken : Nat} {x1 : Int32} {falls : Int32} {tears : Int32} {typed : Int32} {place : Int32} {isKept : Int32} {tape : Nat → Int32} {read : Nat → Int32} {o_place : Int32} {o_read : Nat → Int32} (hf : f_X0_readsPerson x1 typed place tape read = some (o_place, o_read)) : Ct l yX0_readsPerson cX0_readsPerson 4 none 4 91 0 0 D E [.ref a, .int x1] [(a, .inr (0, [.ref a_kinds, .ref a_town, .ref a_tried, .ref a_fell, .int falls, .int tears, .ref a_tape, .int typed, .int place, .ref a_read, .ref a_undos, .ref a_kept, .ref a_keptUndos, .int isKept, .ref a_sheets, .ref a_taken])), (a_tape, .inl (E 0, 90, .inl tape)), (a_read, .inl (E 1, 40, .inl read))] (Pn none [(a, .inr (0, [.ref a_kinds, .ref a_town, .ref a_tried, .ref a_fell, .int falls, .int tears, .ref a_tape, .int typed, .int o_place, .ref a_read, .ref a_undos, .ref a_kept, .ref a_keptUndos, .int isKept, .ref a_sheets, .ref a_taken])), (a_tape, .inl (E 0, 90, .inl tape)), (a_read, .inl (E 1, 40, .inl o_read))]) := by
  refine ct_of (own := RX0) (plainFor_of_name (by decide)) rfl (fle rfl) rfl ?_
  intro X hl hD hE hnL hXF h hR hF hnm
  subst hl; subst hD; subst hE
  have hL : ∀ i, i < 4 → i < X.nL := fun i hi => by rw [hnL]; exact hi
  unfold f_X0_readsPerson at hf
  refine g_aload_n h 0 dX0_readsPerson_0 rfl rfl ?_
  obtain ⟨r_1, place_2, hv, hf⟩ := ob2 hf
  refine g_callV (ci := 0) (q0 := 0) (n := 0) (As := []) (st := []) (wr := [(a_read, .inl (X.E 1, 40, .inl read))]) (isC := [0, 1]) (isR := [2]) h hR (ct_X0_here (a := a) (a_kinds := a_kinds) (a_town := a_town) (a_tried := a_tried) (a_fell := a_fell) (a_tape := a_tape) (a_read := a_read) (a_undos := a_undos) (a_kept := a_kept) (a_keptUndos := a_keptUndos) (a_sheets := a_sheets) (a_taken := a_taken) (falls := falls) (tears := tears) (typed := typed) (place := place) (isKept := isKept) (tape := tape) hv) rfl rfl (lw_V q338 q340 qs9 q70 q341) (by decide +kernel) rfl ⟨rfl, rfl, rfl, rfl, by decide⟩ ⟨fle rfl, fle rfl, fle rfl, fle rfl, fle rfl⟩ rfl dX0_readsPerson_1 (pin (perm := [1, 2, 0]) (ws' := [(a, .inr (0, [.ref a_kinds, .ref a_town, .ref a_tried, .ref a_fell, .int falls, .int tears, .ref a_tape, .int typed, .int place_2, .ref a_read, .ref a_undos, .ref a_kept, .ref a_keptUndos, .int isKept, .ref a_sheets, .ref a_taken])), (a_tape, .inl (X.E 0, 90, .inl tape)), (a_read, .inl (X.E 1, 40, .inl read))]) (stk := [.int r_1]) rfl rfl rfl ?_)
  clear hv
  obtain ⟨z_7, place_8, hw, hf⟩ := ob2 hf
  have K4 : G X [(a, .inr (0, [.ref a_kinds, .ref a_town, .ref a_tried, .ref a_fell, .int falls, .int tears, .ref a_tape, .int typed, .int place_8, .ref a_read, .ref a_undos, .ref a_kept, .ref a_keptUndos, .int isKept, .ref a_sheets, .ref a_taken])), (a_tape, .inl (X.E 0, 90, .inl tape)), (a_read, .inl (X.E 1, 40, .inl read))] [(0, .ref a), (1, .int x1)] 0 0 21 [.int z_7] := by
    clear hw
    refine g_istore_n (lv' := [(2, .int z_7), (0, .ref a), (1, .int x1)]) h dX0_readsPerson_21 rfl (hL 2 (fle rfl)) rfl ?_
    refine g_aload_n h 1 dX0_readsPerson_22 rfl rfl ?_
    refine g_iload_n h 0 dX0_readsPerson_23 rfl rfl ?_
    obtain ⟨z_13, hw, hf⟩ := ob1 hf
    have K24 : G X [(a, .inr (0, [.ref a_kinds, .ref a_town, .ref a_tried, .ref a_fell, .int falls, .int tears, .ref a_tape, .int typed, .int place_8, .ref a_read, .ref a_undos, .ref a_kept, .ref a_keptUndos, .int isKept, .ref a_sheets, .ref a_taken])), (a_tape, .inl (X.E 0, 90, .inl tape)), (a_read, .inl (X.E 1, 40, .inl read))] [(0, .ref a), (1, .int x1), (2, .int z_7)] 0 0 32 [.int z_13, .ref a] := by
      clear hw
      obtain ⟨place_14, hv, hf⟩ := ob1 hf
      refine g_callV (ci := 0) (q0 := 0) (n := 1) (As := [.int z_13]) (st := []) (wr := [(a_tape, .inl (X.E 0, 90, .inl tape)), (a_read, .inl (X.E 1, 40, .inl read))]) (isC := [0]) (isR := [1, 2]) h hR (ct_X0_must (a := a) (a_kinds := a_kinds) (a_town := a_town) (a_tried := a_tried) (a_fell := a_fell) (a_tape := a_tape) (a_read := a_read) (a_undos := a_undos) (a_kept := a_kept) (a_keptUndos := a_keptUndos) (a_sheets := a_sheets) (a_taken := a_taken) (x1 := z_13) (falls := falls) (tears := tears) (typed := typed) (place := place_8) (isKept := isKept) hv) rfl rfl (lw_V q422 q424 qs12 q70 q425) (by decide +kernel) rfl ⟨rfl, rfl, rfl, rfl, by decide⟩ ⟨fle rfl, fle rfl, fle rfl, fle rfl, fle rfl⟩ rfl dX0_readsPerson_32 (pin (perm := [2, 0, 1]) (ws' := [(a, .inr (0, [.ref a_kinds, .ref a_town, .ref a_tried, .ref a_fell, .int falls, .int tears, .ref a_tape, .int typed, .int place_14, .ref a_read, .ref a_undos, .ref a_kept, .ref a_keptUndos, .int isKept, .ref a_sheets, .ref a_taken])), (a_tape, .inl (X.E 0, 90, .inl tape)), (a_read, .inl (X.E 1, 40, .inl read))]) (stk := []) rfl rfl rfl ?_)
      clear hv
      refine g_aload_n h 0 dX0_readsPerson_35 rfl rfl ?_
      refine g_get (ci := 0) (v := .ref a_read) h in_X0 0 9 rfl rfl (fle rfl) rfl q1120 rfl dX0_readsPerson_36 ?_
      refine g_iload_n h 1 dX0_readsPerson_39 rfl rfl ?_
      refine g_iload_n h 2 dX0_readsPerson_40 rfl rfl ?_
      obtain ⟨g15, hf⟩ := gn hf
      refine g_iastore (ws' := [(a, .inr (0, [.ref a_kinds, .ref a_town, .ref a_tried, .ref a_fell, .int falls, .int tears, .ref a_tape, .int typed, .int place_14, .ref a_read, .ref a_undos, .ref a_kept, .ref a_keptUndos, .int isKept, .ref a_sheets, .ref a_taken])), (a_tape, .inl (X.E 0, 90, .inl tape)), (a_read, .inl (X.E 1, 40, .inl (upd read x1.toNatClampNeg z_7)))]) h 2 rfl g15 rfl dX0_readsPerson_41 ?_
      refine g_aload_n h 0 dX0_readsPerson_42 rfl rfl ?_
      refine g_get (ci := 0) (v := .ref a_read) h in_X0 0 9 rfl rfl (fle rfl) rfl q1120 rfl dX0_readsPerson_43 ?_
      refine g_iload_n h 1 dX0_readsPerson_46 rfl rfl ?_
      refine g_iconst (v := 1) h dX0_readsPerson_47 kiconst_1 ?_
      refine g_iadd h dX0_readsPerson_48 ?_
      refine g_aload_n h 0 dX0_readsPerson_49 rfl rfl ?_
      refine g_iconst (v := 1) h dX0_readsPerson_50 kiconst_1 ?_
      refine g_bipush (v := 30) h dX0_readsPerson_51 kbipush_30 ?_
      obtain ⟨r_16, place_17, hv, hf⟩ := ob2 hf
      refine g_callV (ci := 0) (q0 := 0) (n := 2) (As := [.int 1, .int 30]) (st := [.int (x1 + 1), .ref a_read]) (wr := [(a_read, .inl (X.E 1, 40, .inl (upd read x1.toNatClampNeg z_7)))]) (isC := [0, 1]) (isR := [2]) h hR (ct_X0_number (a := a) (a_kinds := a_kinds) (a_town := a_town) (a_tried := a_tried) (a_fell := a_fell) (a_tape := a_tape) (a_read := a_read) (a_undos := a_undos) (a_kept := a_kept) (a_keptUndos := a_keptUndos) (a_sheets := a_sheets) (a_taken := a_taken) (x1 := 1) (x2 := 30) (falls := falls) (tears := tears) (typed := typed) (place := place_14) (isKept := isKept) (tape := tape) hv) rfl rfl (lw_V q334 q336 qs8 q70 q337) (by decide +kernel) rfl ⟨rfl, rfl, rfl, rfl, by decide⟩ ⟨fle rfl, fle rfl, fle rfl, fle rfl, fle rfl⟩ rfl dX0_readsPerson_53 (pin (perm := [1, 2, 0]) (ws' := [(a, .inr (0, [.ref a_kinds, .ref a_town, .ref a_tried, .ref a_fell, .int falls, .int tears, .ref a_tape, .int typed, .int place_17, .ref a_read, .ref a_undos, .ref a_kept, .ref a_keptUndos, .int isKept, .ref a_sheets, .ref a_taken])), (a_tape, .inl (X.E 0, 90, .inl tape)), (a_read, .inl (X.E 1, 40, .inl (upd read x1.toNatClampNeg z_7)))]) (stk := [.int r_16, .int (x1 + 1), .ref a_read]) rfl rfl rfl ?_)
      clear hv
      obtain ⟨g18, hf⟩ := gn hf
      refine g_iastore (ws' := [(a, .inr (0, [.ref a_kinds, .ref a_town, .ref a_tried, .ref a_fell, .int falls, .int tears, .ref a_tape, .int typed, .int place_17, .ref a_read, .ref a_undos, .ref a_kept, .ref a_keptUndos, .int isKept, .ref a_sheets, .ref a_taken])), (a_tape, .inl (X.E 0, 90, .inl tape)), (a_read, .inl (X.E 1, 40, .inl (upd (upd read x1.toNatClampNeg z_7) (x1 + 1).toNatClampNeg r_16)))]) h 2 rfl g18 rfl dX0_readsPerson_56 ?_
      refine g_aload_n h 0 dX0_readsPerson_57 rfl rfl ?_
      obtain ⟨r_19, place_20, hv, hf⟩ := ob2 hf
      refine g_callV (ci := 0) (q0 := 0) (n := 0) (As := []) (st := []) (wr := [(a_read, .inl (X.E 1, 40, .inl (upd (upd read x1.toNatClampNeg z_7) (x1 + 1).toNatClampNeg r_16)))]) (isC := [0, 1]) (isR := [2]) h hR (ct_X0_here (a := a) (a_kinds := a_kinds) (a_town := a_town) (a_tried := a_tried) (a_fell := a_fell) (a_tape := a_tape) (a_read := a_read) (a_undos := a_undos) (a_kept := a_kept) (a_keptUndos := a_keptUndos) (a_sheets := a_sheets) (a_taken := a_taken) (falls := falls) (tears := tears) (typed := typed) (place := place_17) (isKept := isKept) (tape := tape) hv) rfl rfl (lw_V q338 q340 qs9 q70 q341) (by decide +kernel) rfl ⟨rfl, rfl, rfl, rfl, by decide⟩ ⟨fle rfl, fle rfl, fle rfl, fle rfl, fle rfl⟩ rfl dX0_readsPerson_58 (pin (perm := [1, 2, 0]) (ws' := [(a, .inr (0, [.ref a_kinds, .ref a_town, .ref a_tried, .ref a_fell, .int falls, .int tears, .ref a_tape, .int typed, .int place_20, .ref a_read, .ref a_undos, .ref a_kept, .ref a_keptUndos, .int isKept, .ref a_sheets, .ref a_taken])), (a_tape, .inl (X.E 0, 90, .inl tape)), (a_read, .inl (X.E 1, 40, .inl (upd (upd read x1.toNatClampNeg z_7) (x1 + 1).toNatClampNeg r_16)))]) (stk := [.int r_19]) rfl rfl rfl ?_)
      clear hv
      refine g_bipush (v := 126) h dX0_readsPerson_61 kbipush_126 ?_
      obtain ⟨z_22, hw, hf⟩ := ob1 hf
      have K63 : G X [(a, .inr (0, [.ref a_kinds, .ref a_town, .ref a_tried, .ref a_fell, .int falls, .int tears, .ref a_tape, .int typed, .int place_20, .ref a_read, .ref a_undos, .ref a_kept, .ref a_keptUndos, .int isKept, .ref a_sheets, .ref a_taken])), (a_tape, .inl (X.E 0, 90, .inl tape)), (a_read, .inl (X.E 1, 40, .inl (upd (upd read x1.toNatClampNeg z_7) (x1 + 1).toNatClampNeg r_16)))] [(0, .ref a), (1, .int x1)] 0 0 71 [.int z_22] := by
        clear hw
        refine g_istore_n (lv' := [(3, .int z_22), (0, .ref a), (1, .int x1)]) h dX0_readsPerson_71 rfl (hL 3 (fle rfl)) rfl ?_
        refine g_aload_n h 1 dX0_readsPerson_72 rfl rfl ?_
        refine g_iload_n h 0 dX0_readsPerson_73 rfl rfl ?_
        obtain ⟨z_27, place_28, hw, hf⟩ := ob2 hf
        have K74 : G X [(a, .inr (0, [.ref a_kinds, .ref a_town, .ref a_tried, .ref a_fell, .int falls, .int tears, .ref a_tape, .int typed, .int place_28, .ref a_read, .ref a_undos, .ref a_kept, .ref a_keptUndos, .int isKept, .ref a_sheets, .ref a_taken])), (a_tape, .inl (X.E 0, 90, .inl tape)), (a_read, .inl (X.E 1, 40, .inl (upd (upd read x1.toNatClampNeg z_7) (x1 + 1).toNatClampNeg r_16)))] [(0, .ref a), (1, .int x1), (3, .int z_22)] 0 0 91 [.int z_27, .ref a] := by
          clear hw
          obtain ⟨place_32, hv, hf⟩ := ob1 hf
          refine g_callV (ci := 0) (q0 := 0) (n := 1) (As := [.int z_27]) (st := []) (wr := [(a_tape, .inl (X.E 0, 90, .inl tape)), (a_read, .inl (X.E 1, 40, .inl (upd (upd read x1.toNatClampNeg z_7) (x1 + 1).toNatClampNeg r_16)))]) (isC := [0]) (isR := [1, 2]) h hR (ct_X0_must (a := a) (a_kinds := a_kinds) (a_town := a_town) (a_tried := a_tried) (a_fell := a_fell) (a_tape := a_tape) (a_read := a_read) (a_undos := a_undos) (a_kept := a_kept) (a_keptUndos := a_keptUndos) (a_sheets := a_sheets) (a_taken := a_taken) (x1 := z_27) (falls := falls) (tears := tears) (typed := typed) (place := place_28) (isKept := isKept) hv) rfl rfl (lw_V q422 q424 qs12 q70 q425) (by decide +kernel) rfl ⟨rfl, rfl, rfl, rfl, by decide⟩ ⟨fle rfl, fle rfl, fle rfl, fle rfl, fle rfl⟩ rfl dX0_readsPerson_91 (pin (perm := [2, 0, 1]) (ws' := [(a, .inr (0, [.ref a_kinds, .ref a_town, .ref a_tried, .ref a_fell, .int falls, .int tears, .ref a_tape, .int typed, .int place_32, .ref a_read, .ref a_undos, .ref a_kept, .ref a_keptUndos, .int isKept, .ref a_sheets, .ref a_taken])), (a_tape, .inl (X.E 0, 90, .inl tape)), (a_read, .inl (X.E 1, 40, .inl (upd (upd read x1.toNatClampNeg z_7) (x1 + 1).toNatClampNeg r_16)))]) (stk := []) rfl rfl rfl ?_)
          clear hv
          refine g_aload_n h 0 dX0_readsPerson_94 rfl rfl ?_
          refine g_get (ci := 0) (v := .ref a_read) h in_X0 0 9 rfl rfl (fle rfl) rfl q1120 rfl dX0_readsPerson_95 ?_
          refine g_iload_n h 1 dX0_readsPerson_98 rfl rfl ?_
          refine g_iconst (v := 2) h dX0_readsPerson_99 kiconst_2 ?_
          refine g_iadd h dX0_readsPerson_100 ?_
          refine g_iload_n h 2 dX0_readsPerson_101 rfl rfl ?_
          refine g_if_eq (tgt := 110) h dX0_readsPerson_102 rfl hf (fun c33 hf => ?_) (fun c33 hf => ?_)
          · refine g_aload_n h 0 dX0_readsPerson_110 rfl rfl ?_
            refine g_iconst (v := 0) h dX0_readsPerson_111 kiconst_0 ?_
            refine g_bipush (v := 99) h dX0_readsPerson_112 kbipush_99 ?_
            obtain ⟨r_34, place_35, hv, hf⟩ := ob2 hf
            refine g_callV (ci := 0) (q0 := 0) (n := 2) (As := [.int 0, .int 99]) (st := [.int (x1 + 2), .ref a_read]) (wr := [(a_read, .inl (X.E 1, 40, .inl (upd (upd read x1.toNatClampNeg z_7) (x1 + 1).toNatClampNeg r_16)))]) (isC := [0, 1]) (isR := [2]) h hR (ct_X0_number (a := a) (a_kinds := a_kinds) (a_town := a_town) (a_tried := a_tried) (a_fell := a_fell) (a_tape := a_tape) (a_read := a_read) (a_undos := a_undos) (a_kept := a_kept) (a_keptUndos := a_keptUndos) (a_sheets := a_sheets) (a_taken := a_taken) (x1 := 0) (x2 := 99) (falls := falls) (tears := tears) (typed := typed) (place := place_32) (isKept := isKept) (tape := tape) hv) rfl rfl (lw_V q334 q336 qs8 q70 q337) (by decide +kernel) rfl ⟨rfl, rfl, rfl, rfl, by decide⟩ ⟨fle rfl, fle rfl, fle rfl, fle rfl, fle rfl⟩ rfl dX0_readsPerson_114 (pin (perm := [1, 2, 0]) (ws' := [(a, .inr (0, [.ref a_kinds, .ref a_town, .ref a_tried, .ref a_fell, .int falls, .int tears, .ref a_tape, .int typed, .int place_35, .ref a_read, .ref a_undos, .ref a_kept, .ref a_keptUndos, .int isKept, .ref a_sheets, .ref a_taken])), (a_tape, .inl (X.E 0, 90, .inl tape)), (a_read, .inl (X.E 1, 40, .inl (upd (upd read x1.toNatClampNeg z_7) (x1 + 1).toNatClampNeg r_16)))]) (stk := [.int r_34, .int (x1 + 2), .ref a_read]) rfl rfl rfl ?_)
            clear hv
            obtain ⟨g36, hf⟩ := gn hf
            refine g_iastore (ws' := [(a, .inr (0, [.ref a_kinds, .ref a_town, .ref a_tried, .ref a_fell, .int falls, .int tears, .ref a_tape, .int typed, .int place_35, .ref a_read, .ref a_undos, .ref a_kept, .ref a_keptUndos, .int isKept, .ref a_sheets, .ref a_taken])), (a_tape, .inl (X.E 0, 90, .inl tape)), (a_read, .inl (X.E 1, 40, .inl (upd (upd (upd read x1.toNatClampNeg z_7) (x1 + 1).toNatClampNeg r_16) (x1 + 2).toNatClampNeg r_34)))]) h 2 rfl g36 rfl dX0_readsPerson_117 ?_
            obtain ⟨rfl, rfl⟩ := sj2 hf
            exact g_vret h hF [0, 1, 2] rfl rfl ⟨rfl, rfl⟩ (fle rfl) (fle rfl) dX0_readsPerson_118
          · refine g_bipush (v := (-4)) h dX0_readsPerson_105 kbipush_m4 ?_
            refine g_goto (tgt := 117) h dX0_readsPerson_107 rfl ?_
            obtain ⟨g37, hf⟩ := gn hf
            refine g_iastore (ws' := [(a, .inr (0, [.ref a_kinds, .ref a_town, .ref a_tried, .ref a_fell, .int falls, .int tears, .ref a_tape, .int typed, .int place_32, .ref a_read, .ref a_undos, .ref a_kept, .ref a_keptUndos, .int isKept, .ref a_sheets, .ref a_taken])), (a_tape, .inl (X.E 0, 90, .inl tape)), (a_read, .inl (X.E 1, 40, .inl (upd (upd (upd read x1.toNatClampNeg z_7) (x1 + 1).toNatClampNeg r_16) (x1 + 2).toNatClampNeg (-4))))]) h 2 rfl g37 rfl dX0_readsPerson_117 ?_
            obtain ⟨rfl, rfl⟩ := sj2 hf
            exact g_vret h hF [0, 1, 2] rfl rfl ⟨rfl, rfl⟩ (fle rfl) (fle rfl) dX0_readsPerson_118
        clear hf
        have hf := hw
        clear hw
        refine g_if_ne (tgt := 86) h dX0_readsPerson_74 rfl hf (fun c23 hf => ?_) (fun c23 hf => ?_)
        · refine g_aload_n h 1 dX0_readsPerson_77 rfl rfl ?_
          obtain ⟨r_29, place_30, hv, hf⟩ := ob2 hf
          refine g_callV (ci := 0) (q0 := 0) (n := 0) (As := []) (st := [.ref a]) (wr := [(a_read, .inl (X.E 1, 40, .inl (upd (upd read x1.toNatClampNeg z_7) (x1 + 1).toNatClampNeg r_16)))]) (isC := [0, 1]) (isR := [2]) h hR (ct_X0_here (a := a) (a_kinds := a_kinds) (a_town := a_town) (a_tried := a_tried) (a_fell := a_fell) (a_tape := a_tape) (a_read := a_read) (a_undos := a_undos) (a_kept := a_kept) (a_keptUndos := a_keptUndos) (a_sheets := a_sheets) (a_taken := a_taken) (falls := falls) (tears := tears) (typed := typed) (place := place_20) (isKept := isKept) (tape := tape) hv) rfl rfl (lw_V q338 q340 qs9 q70 q341) (by decide +kernel) rfl ⟨rfl, rfl, rfl, rfl, by decide⟩ ⟨fle rfl, fle rfl, fle rfl, fle rfl, fle rfl⟩ rfl dX0_readsPerson_78 (pin (perm := [1, 2, 0]) (ws' := [(a, .inr (0, [.ref a_kinds, .ref a_town, .ref a_tried, .ref a_fell, .int falls, .int tears, .ref a_tape, .int typed, .int place_30, .ref a_read, .ref a_undos, .ref a_kept, .ref a_keptUndos, .int isKept, .ref a_sheets, .ref a_taken])), (a_tape, .inl (X.E 0, 90, .inl tape)), (a_read, .inl (X.E 1, 40, .inl (upd (upd read x1.toNatClampNeg z_7) (x1 + 1).toNatClampNeg r_16)))]) (stk := [.int r_29, .ref a]) rfl rfl rfl ?_)
          clear hv
          refine g_bipush (v := 64) h dX0_readsPerson_81 kbipush_64 ?_
          refine g_icmp_ne (tgt := 90) h dX0_readsPerson_83 rfl hf (fun c31 hf => ?_) (fun c31 hf => ?_)
          · refine g_iconst (v := 1) h dX0_readsPerson_86 kiconst_1 ?_
            refine g_goto (tgt := 91) h dX0_readsPerson_87 rfl ?_
            obtain ⟨rfl, rfl⟩ := sj2 hf
            exact G.lsub [1, 2, 0] rfl K74
          · refine g_iconst (v := 0) h dX0_readsPerson_90 kiconst_0 ?_
            obtain ⟨rfl, rfl⟩ := sj2 hf
            exact G.lsub [1, 2, 0] rfl K74
        · refine g_iconst (v := 1) h dX0_readsPerson_86 kiconst_1 ?_
          refine g_goto (tgt := 91) h dX0_readsPerson_87 rfl ?_
          obtain ⟨rfl, rfl⟩ := sj2 hf
          exact G.lsub [1, 2, 0] rfl K74
      clear hf
      have hf := hw
      clear hw
      refine g_icmp_ne (tgt := 70) h dX0_readsPerson_63 rfl hf (fun c21 hf => ?_) (fun c21 hf => ?_)
      · refine g_iconst (v := 1) h dX0_readsPerson_66 kiconst_1 ?_
        refine g_goto (tgt := 71) h dX0_readsPerson_67 rfl ?_
        obtain rfl := sj1 hf
        exact G.lsub [0, 1] rfl K63
      · refine g_iconst (v := 0) h dX0_readsPerson_70 kiconst_0 ?_
        obtain rfl := sj1 hf
        exact G.lsub [0, 1] rfl K63
    clear hf
    have hf := hw
    clear hw
    refine g_if_lt (tgt := 31) h dX0_readsPerson_24 rfl hf (fun c12 hf => ?_) (fun c12 hf => ?_)
    · refine g_iconst (v := 0) h dX0_readsPerson_31 kiconst_0 ?_
      obtain rfl := sj1 hf
      exact G.lsub [1, 2, 0] rfl K24
    · refine g_iconst (v := 1) h dX0_readsPerson_27 kiconst_1 ?_
      refine g_goto (tgt := 32) h dX0_readsPerson_28 rfl ?_
      obtain rfl := sj1 hf
      exact G.lsub [1, 2, 0] rfl K24
  clear hf
  have hf := hw
  clear hw
  refine g_if_ne (tgt := 12) h dX0_readsPerson_4 rfl hf (fun c3 hf => ?_) (fun c3 hf => ?_)
  · refine g_bipush (v := (-4)) h dX0_readsPerson_7 kbipush_m4 ?_
    refine g_goto (tgt := 21) h dX0_readsPerson_9 rfl ?_
    obtain ⟨rfl, rfl⟩ := sj2 hf
    exact G.lsub [0, 1] rfl K4
  · refine g_ldcS h dX0_readsPerson_12 ?_
    refine g_aload_n h 0 dX0_readsPerson_14 rfl rfl ?_
    obtain ⟨r_9, place_10, hv, hf⟩ := ob2 hf
    refine g_callV (ci := 0) (q0 := 0) (n := 0) (As := []) (st := [.ref (X.E 100)]) (wr := [(a_read, .inl (X.E 1, 40, .inl read))]) (isC := [0, 1]) (isR := [2]) h hR (ct_X0_here (a := a) (a_kinds := a_kinds) (a_town := a_town) (a_tried := a_tried) (a_fell := a_fell) (a_tape := a_tape) (a_read := a_read) (a_undos := a_undos) (a_kept := a_kept) (a_keptUndos := a_keptUndos) (a_sheets := a_sheets) (a_taken := a_taken) (falls := falls) (tears := tears) (typed := typed) (place := place_2) (isKept := isKept) (tape := tape) hv) rfl rfl (lw_V q338 q340 qs9 q70 q341) (by decide +kernel) rfl ⟨rfl, rfl, rfl, rfl, by decide⟩ ⟨fle rfl, fle rfl, fle rfl, fle rfl, fle rfl⟩ rfl dX0_readsPerson_15 (pin (perm := [1, 2, 0]) (ws' := [(a, .inr (0, [.ref a_kinds, .ref a_town, .ref a_tried, .ref a_fell, .int falls, .int tears, .ref a_tape, .int typed, .int place_10, .ref a_read, .ref a_undos, .ref a_kept, .ref a_keptUndos, .int isKept, .ref a_sheets, .ref a_taken])), (a_tape, .inl (X.E 0, 90, .inl tape)), (a_read, .inl (X.E 1, 40, .inl read))]) (stk := [.int r_9, .ref (X.E 100)]) rfl rfl rfl ?_)
    clear hv
    obtain ⟨r_11, hv, hf⟩ := ob1 hf
    refine g_callVK (n := 1) (As := [.int r_9]) (st := []) (wr := [(a, .inr (0, [.ref a_kinds, .ref a_town, .ref a_tried, .ref a_fell, .int falls, .int tears, .ref a_tape, .int typed, .int place_10, .ref a_read, .ref a_undos, .ref a_kept, .ref a_keptUndos, .int isKept, .ref a_sheets, .ref a_taken])), (a_tape, .inl (X.E 0, 90, .inl tape)), (a_read, .inl (X.E 1, 40, .inl read))]) (isC := []) (isR := [0, 1, 2]) h hR (ct_J5_indexOf (x1 := r_9) hv) (lw_V q435 q436 q437 q86 q438) (by decide +kernel) rfl ⟨rfl, rfl, rfl, rfl, by decide⟩ ⟨fle rfl, fle rfl, fle rfl, fle rfl, fle rfl⟩ rfl dX0_readsPerson_18 (pin (perm := [0, 1, 2]) (ws' := [(a, .inr (0, [.ref a_kinds, .ref a_town, .ref a_tried, .ref a_fell, .int falls, .int tears, .ref a_tape, .int typed, .int place_10, .ref a_read, .ref a_undos, .ref a_kept, .ref a_keptUndos, .int isKept, .ref a_sheets, .ref a_taken])), (a_tape, .inl (X.E 0, 90, .inl tape)), (a_read, .inl (X.E 1, 40, .inl read))]) (stk := [.int r_11]) rfl rfl rfl ?_)
    clear hv
    obtain ⟨rfl, rfl⟩ := sj2 hf
    exact G.lsub [0, 1] rfl K4
set_option maxHeartbeats 4000000 in
set_option maxRecDepth 100000 in
theorem ctT_X0_readsPerson {l : Launch} {D : va_G} {E : Ety} {a a_kinds a_town a_tried a_fell a_tape a_read a_undos a_kept a_keptUndos a_sheets a_taken : Nat} {x1 : Int32} {falls : Int32} {tears : Int32} {typed : Int32} {place : Int32} {isKept : Int32} {tape : Nat → Int32} {read : Nat → Int32} {v_ : Int32} {o_place : Int32} {o_read : Nat → Int32} (hfl : l.flags = flags0) (hf : e_X0_readsPerson x1 typed place tape read = some (v_, o_place, o_read)) : CtT l yX0_readsPerson cX0_readsPerson 4 none 6 144 1 7 D E [.ref a, .int x1] [(a, .inr (0, [.ref a_kinds, .ref a_town, .ref a_tried, .ref a_fell, .int falls, .int tears, .ref a_tape, .int typed, .int place, .ref a_read, .ref a_undos, .ref a_kept, .ref a_keptUndos, .int isKept, .ref a_sheets, .ref a_taken])), (a_tape, .inl (E 0, 90, .inl tape)), (a_read, .inl (E 1, 40, .inl read))] (fun C x w => C = "OneElastic$Fault" ∧ w = [(a, .inr (0, [.ref a_kinds, .ref a_town, .ref a_tried, .ref a_fell, .int falls, .int tears, .ref a_tape, .int typed, .int o_place, .ref a_read, .ref a_undos, .ref a_kept, .ref a_keptUndos, .int isKept, .ref a_sheets, .ref a_taken])), (a_tape, .inl (E 0, 90, .inl tape)), (a_read, .inl (E 1, 40, .inl o_read))] ++ [(x, .inr (13, [.int v_]))]) := by
  refine ct_ofT (own := RX0) (plainFor_of_name (by decide)) rfl (fle rfl) rfl ?_
  intro X hl hD hE hnL hXF h hR hF hx
  subst hl; subst hD; subst hE
  have hL : ∀ i, i < 4 → i < X.nL := fun i hi => by rw [hnL]; exact hi
  unfold e_X0_readsPerson at hf
  refine g_aload_n h 0 dX0_readsPerson_0 rfl rfl ?_
  obtain ⟨r_1, place_2, hv, hf⟩ := ob2 hf
  refine g_callV (ci := 0) (q0 := 0) (n := 0) (As := []) (st := []) (wr := [(a_read, .inl (X.E 1, 40, .inl read))]) (isC := [0, 1]) (isR := [2]) h hR (ct_X0_here (a := a) (a_kinds := a_kinds) (a_town := a_town) (a_tried := a_tried) (a_fell := a_fell) (a_tape := a_tape) (a_read := a_read) (a_undos := a_undos) (a_kept := a_kept) (a_keptUndos := a_keptUndos) (a_sheets := a_sheets) (a_taken := a_taken) (falls := falls) (tears := tears) (typed := typed) (place := place) (isKept := isKept) (tape := tape) hv) rfl rfl (lw_V q338 q340 qs9 q70 q341) (by decide +kernel) rfl ⟨rfl, rfl, rfl, rfl, by decide⟩ ⟨fle rfl, fle rfl, fle rfl, fle rfl, fle rfl⟩ rfl dX0_readsPerson_1 (pin (perm := [1, 2, 0]) (ws' := [(a, .inr (0, [.ref a_kinds, .ref a_town, .ref a_tried, .ref a_fell, .int falls, .int tears, .ref a_tape, .int typed, .int place_2, .ref a_read, .ref a_undos, .ref a_kept, .ref a_keptUndos, .int isKept, .ref a_sheets, .ref a_taken])), (a_tape, .inl (X.E 0, 90, .inl tape)), (a_read, .inl (X.E 1, 40, .inl read))]) (stk := [.int r_1]) rfl rfl rfl ?_)
  clear hv
  obtain ⟨z_7, place_8, hw, hf⟩ := ob2 hf
  have K4 : G X [(a, .inr (0, [.ref a_kinds, .ref a_town, .ref a_tried, .ref a_fell, .int falls, .int tears, .ref a_tape, .int typed, .int place_8, .ref a_read, .ref a_undos, .ref a_kept, .ref a_keptUndos, .int isKept, .ref a_sheets, .ref a_taken])), (a_tape, .inl (X.E 0, 90, .inl tape)), (a_read, .inl (X.E 1, 40, .inl read))] [(0, .ref a), (1, .int x1)] 0 0 21 [.int z_7] := by
    clear hw
    refine g_istore_n (lv' := [(2, .int z_7), (0, .ref a), (1, .int x1)]) h dX0_readsPerson_21 rfl (hL 2 (fle rfl)) rfl ?_
    refine g_aload_n h 1 dX0_readsPerson_22 rfl rfl ?_
    refine g_iload_n h 0 dX0_readsPerson_23 rfl rfl ?_
    obtain ⟨z_13, hw, hf⟩ := ob1 hf
    have K24 : G X [(a, .inr (0, [.ref a_kinds, .ref a_town, .ref a_tried, .ref a_fell, .int falls, .int tears, .ref a_tape, .int typed, .int place_8, .ref a_read, .ref a_undos, .ref a_kept, .ref a_keptUndos, .int isKept, .ref a_sheets, .ref a_taken])), (a_tape, .inl (X.E 0, 90, .inl tape)), (a_read, .inl (X.E 1, 40, .inl read))] [(0, .ref a), (1, .int x1), (2, .int z_7)] 0 0 32 [.int z_13, .ref a] := by
      clear hw
      refine ox_at hf (fun z hv hf => ?_) (fun z hv hf => ?_)
      · obtain ⟨place_14, hz, hf⟩ := ob1 hf
        replace hv := hv.trans hz
        clear hz
        refine g_callV (ci := 0) (q0 := 0) (n := 1) (As := [.int z_13]) (st := []) (wr := [(a_tape, .inl (X.E 0, 90, .inl tape)), (a_read, .inl (X.E 1, 40, .inl read))]) (isC := [0]) (isR := [1, 2]) h hR (ct_X0_must (a := a) (a_kinds := a_kinds) (a_town := a_town) (a_tried := a_tried) (a_fell := a_fell) (a_tape := a_tape) (a_read := a_read) (a_undos := a_undos) (a_kept := a_kept) (a_keptUndos := a_keptUndos) (a_sheets := a_sheets) (a_taken := a_taken) (x1 := z_13) (falls := falls) (tears := tears) (typed := typed) (place := place_8) (isKept := isKept) hv) rfl rfl (lw_V q422 q424 qs12 q70 q425) (by decide +kernel) rfl ⟨rfl, rfl, rfl, rfl, by decide⟩ ⟨fle rfl, fle rfl, fle rfl, fle rfl, fle rfl⟩ rfl dX0_readsPerson_32 (pin (perm := [2, 0, 1]) (ws' := [(a, .inr (0, [.ref a_kinds, .ref a_town, .ref a_tried, .ref a_fell, .int falls, .int tears, .ref a_tape, .int typed, .int place_14, .ref a_read, .ref a_undos, .ref a_kept, .ref a_keptUndos, .int isKept, .ref a_sheets, .ref a_taken])), (a_tape, .inl (X.E 0, 90, .inl tape)), (a_read, .inl (X.E 1, 40, .inl read))]) (stk := []) rfl rfl rfl ?_)
        clear hv
        refine g_aload_n h 0 dX0_readsPerson_35 rfl rfl ?_
        refine g_get (ci := 0) (v := .ref a_read) h in_X0 0 9 rfl rfl (fle rfl) rfl q1120 rfl dX0_readsPerson_36 ?_
        refine g_iload_n h 1 dX0_readsPerson_39 rfl rfl ?_
        refine g_iload_n h 2 dX0_readsPerson_40 rfl rfl ?_
        obtain ⟨g17, hf⟩ := gn hf
        refine g_iastore (ws' := [(a, .inr (0, [.ref a_kinds, .ref a_town, .ref a_tried, .ref a_fell, .int falls, .int tears, .ref a_tape, .int typed, .int place_14, .ref a_read, .ref a_undos, .ref a_kept, .ref a_keptUndos, .int isKept, .ref a_sheets, .ref a_taken])), (a_tape, .inl (X.E 0, 90, .inl tape)), (a_read, .inl (X.E 1, 40, .inl (upd read x1.toNatClampNeg z_7)))]) h 2 rfl g17 rfl dX0_readsPerson_41 ?_
        refine g_aload_n h 0 dX0_readsPerson_42 rfl rfl ?_
        refine g_get (ci := 0) (v := .ref a_read) h in_X0 0 9 rfl rfl (fle rfl) rfl q1120 rfl dX0_readsPerson_43 ?_
        refine g_iload_n h 1 dX0_readsPerson_46 rfl rfl ?_
        refine g_iconst (v := 1) h dX0_readsPerson_47 kiconst_1 ?_
        refine g_iadd h dX0_readsPerson_48 ?_
        refine g_aload_n h 0 dX0_readsPerson_49 rfl rfl ?_
        refine g_iconst (v := 1) h dX0_readsPerson_50 kiconst_1 ?_
        refine g_bipush (v := 30) h dX0_readsPerson_51 kbipush_30 ?_
        refine ox_at hf (fun z hv hf => ?_) (fun z hv hf => ?_)
        · obtain ⟨r_18, place_19, hz, hf⟩ := ob2 hf
          replace hv := hv.trans hz
          clear hz
          refine g_callV (ci := 0) (q0 := 0) (n := 2) (As := [.int 1, .int 30]) (st := [.int (x1 + 1), .ref a_read]) (wr := [(a_read, .inl (X.E 1, 40, .inl (upd read x1.toNatClampNeg z_7)))]) (isC := [0, 1]) (isR := [2]) h hR (ct_X0_number (a := a) (a_kinds := a_kinds) (a_town := a_town) (a_tried := a_tried) (a_fell := a_fell) (a_tape := a_tape) (a_read := a_read) (a_undos := a_undos) (a_kept := a_kept) (a_keptUndos := a_keptUndos) (a_sheets := a_sheets) (a_taken := a_taken) (x1 := 1) (x2 := 30) (falls := falls) (tears := tears) (typed := typed) (place := place_14) (isKept := isKept) (tape := tape) hv) rfl rfl (lw_V q334 q336 qs8 q70 q337) (by decide +kernel) rfl ⟨rfl, rfl, rfl, rfl, by decide⟩ ⟨fle rfl, fle rfl, fle rfl, fle rfl, fle rfl⟩ rfl dX0_readsPerson_53 (pin (perm := [1, 2, 0]) (ws' := [(a, .inr (0, [.ref a_kinds, .ref a_town, .ref a_tried, .ref a_fell, .int falls, .int tears, .ref a_tape, .int typed, .int place_19, .ref a_read, .ref a_undos, .ref a_kept, .ref a_keptUndos, .int isKept, .ref a_sheets, .ref a_taken])), (a_tape, .inl (X.E 0, 90, .inl tape)), (a_read, .inl (X.E 1, 40, .inl (upd read x1.toNatClampNeg z_7)))]) (stk := [.int r_18, .int (x1 + 1), .ref a_read]) rfl rfl rfl ?_)
          clear hv
          obtain ⟨g22, hf⟩ := gn hf
          refine g_iastore (ws' := [(a, .inr (0, [.ref a_kinds, .ref a_town, .ref a_tried, .ref a_fell, .int falls, .int tears, .ref a_tape, .int typed, .int place_19, .ref a_read, .ref a_undos, .ref a_kept, .ref a_keptUndos, .int isKept, .ref a_sheets, .ref a_taken])), (a_tape, .inl (X.E 0, 90, .inl tape)), (a_read, .inl (X.E 1, 40, .inl (upd (upd read x1.toNatClampNeg z_7) (x1 + 1).toNatClampNeg r_18)))]) h 2 rfl g22 rfl dX0_readsPerson_56 ?_
          refine g_aload_n h 0 dX0_readsPerson_57 rfl rfl ?_
          obtain ⟨r_23, place_24, hv, hf⟩ := ob2 hf
          refine g_callV (ci := 0) (q0 := 0) (n := 0) (As := []) (st := []) (wr := [(a_read, .inl (X.E 1, 40, .inl (upd (upd read x1.toNatClampNeg z_7) (x1 + 1).toNatClampNeg r_18)))]) (isC := [0, 1]) (isR := [2]) h hR (ct_X0_here (a := a) (a_kinds := a_kinds) (a_town := a_town) (a_tried := a_tried) (a_fell := a_fell) (a_tape := a_tape) (a_read := a_read) (a_undos := a_undos) (a_kept := a_kept) (a_keptUndos := a_keptUndos) (a_sheets := a_sheets) (a_taken := a_taken) (falls := falls) (tears := tears) (typed := typed) (place := place_19) (isKept := isKept) (tape := tape) hv) rfl rfl (lw_V q338 q340 qs9 q70 q341) (by decide +kernel) rfl ⟨rfl, rfl, rfl, rfl, by decide⟩ ⟨fle rfl, fle rfl, fle rfl, fle rfl, fle rfl⟩ rfl dX0_readsPerson_58 (pin (perm := [1, 2, 0]) (ws' := [(a, .inr (0, [.ref a_kinds, .ref a_town, .ref a_tried, .ref a_fell, .int falls, .int tears, .ref a_tape, .int typed, .int place_24, .ref a_read, .ref a_undos, .ref a_kept, .ref a_keptUndos, .int isKept, .ref a_sheets, .ref a_taken])), (a_tape, .inl (X.E 0, 90, .inl tape)), (a_read, .inl (X.E 1, 40, .inl (upd (upd read x1.toNatClampNeg z_7) (x1 + 1).toNatClampNeg r_18)))]) (stk := [.int r_23]) rfl rfl rfl ?_)
          clear hv
          refine g_bipush (v := 126) h dX0_readsPerson_61 kbipush_126 ?_
          obtain ⟨z_26, hw, hf⟩ := ob1 hf
          have K63 : G X [(a, .inr (0, [.ref a_kinds, .ref a_town, .ref a_tried, .ref a_fell, .int falls, .int tears, .ref a_tape, .int typed, .int place_24, .ref a_read, .ref a_undos, .ref a_kept, .ref a_keptUndos, .int isKept, .ref a_sheets, .ref a_taken])), (a_tape, .inl (X.E 0, 90, .inl tape)), (a_read, .inl (X.E 1, 40, .inl (upd (upd read x1.toNatClampNeg z_7) (x1 + 1).toNatClampNeg r_18)))] [(0, .ref a), (1, .int x1)] 0 0 71 [.int z_26] := by
            clear hw
            refine g_istore_n (lv' := [(3, .int z_26), (0, .ref a), (1, .int x1)]) h dX0_readsPerson_71 rfl (hL 3 (fle rfl)) rfl ?_
            refine g_aload_n h 1 dX0_readsPerson_72 rfl rfl ?_
            refine g_iload_n h 0 dX0_readsPerson_73 rfl rfl ?_
            obtain ⟨z_31, place_32, hw, hf⟩ := ob2 hf
            have K74 : G X [(a, .inr (0, [.ref a_kinds, .ref a_town, .ref a_tried, .ref a_fell, .int falls, .int tears, .ref a_tape, .int typed, .int place_32, .ref a_read, .ref a_undos, .ref a_kept, .ref a_keptUndos, .int isKept, .ref a_sheets, .ref a_taken])), (a_tape, .inl (X.E 0, 90, .inl tape)), (a_read, .inl (X.E 1, 40, .inl (upd (upd read x1.toNatClampNeg z_7) (x1 + 1).toNatClampNeg r_18)))] [(0, .ref a), (1, .int x1), (3, .int z_26)] 0 0 91 [.int z_31, .ref a] := by
              clear hw
              refine ox_at hf (fun z hv hf => ?_) (fun z hv hf => ?_)
              · obtain ⟨place_36, hz, hf⟩ := ob1 hf
                replace hv := hv.trans hz
                clear hz
                refine g_callV (ci := 0) (q0 := 0) (n := 1) (As := [.int z_31]) (st := []) (wr := [(a_tape, .inl (X.E 0, 90, .inl tape)), (a_read, .inl (X.E 1, 40, .inl (upd (upd read x1.toNatClampNeg z_7) (x1 + 1).toNatClampNeg r_18)))]) (isC := [0]) (isR := [1, 2]) h hR (ct_X0_must (a := a) (a_kinds := a_kinds) (a_town := a_town) (a_tried := a_tried) (a_fell := a_fell) (a_tape := a_tape) (a_read := a_read) (a_undos := a_undos) (a_kept := a_kept) (a_keptUndos := a_keptUndos) (a_sheets := a_sheets) (a_taken := a_taken) (x1 := z_31) (falls := falls) (tears := tears) (typed := typed) (place := place_32) (isKept := isKept) hv) rfl rfl (lw_V q422 q424 qs12 q70 q425) (by decide +kernel) rfl ⟨rfl, rfl, rfl, rfl, by decide⟩ ⟨fle rfl, fle rfl, fle rfl, fle rfl, fle rfl⟩ rfl dX0_readsPerson_91 (pin (perm := [2, 0, 1]) (ws' := [(a, .inr (0, [.ref a_kinds, .ref a_town, .ref a_tried, .ref a_fell, .int falls, .int tears, .ref a_tape, .int typed, .int place_36, .ref a_read, .ref a_undos, .ref a_kept, .ref a_keptUndos, .int isKept, .ref a_sheets, .ref a_taken])), (a_tape, .inl (X.E 0, 90, .inl tape)), (a_read, .inl (X.E 1, 40, .inl (upd (upd read x1.toNatClampNeg z_7) (x1 + 1).toNatClampNeg r_18)))]) (stk := []) rfl rfl rfl ?_)
                clear hv
                refine g_aload_n h 0 dX0_readsPerson_94 rfl rfl ?_
                refine g_get (ci := 0) (v := .ref a_read) h in_X0 0 9 rfl rfl (fle rfl) rfl q1120 rfl dX0_readsPerson_95 ?_
                refine g_iload_n h 1 dX0_readsPerson_98 rfl rfl ?_
                refine g_iconst (v := 2) h dX0_readsPerson_99 kiconst_2 ?_
                refine g_iadd h dX0_readsPerson_100 ?_
                refine g_iload_n h 2 dX0_readsPerson_101 rfl rfl ?_
                refine g_if_eq (tgt := 110) h dX0_readsPerson_102 rfl hf (fun c39 hf => ?_) (fun c39 hf => ?_)
                · refine g_aload_n h 0 dX0_readsPerson_110 rfl rfl ?_
                  refine g_iconst (v := 0) h dX0_readsPerson_111 kiconst_0 ?_
                  refine g_bipush (v := 99) h dX0_readsPerson_112 kbipush_99 ?_
                  refine ox_at hf (fun z hv hf => ?_) (fun z hv hf => ?_)
                  · obtain ⟨r_40, place_41, hz, hf⟩ := ob2 hf
                    replace hv := hv.trans hz
                    clear hz
                    refine g_callV (ci := 0) (q0 := 0) (n := 2) (As := [.int 0, .int 99]) (st := [.int (x1 + 2), .ref a_read]) (wr := [(a_read, .inl (X.E 1, 40, .inl (upd (upd read x1.toNatClampNeg z_7) (x1 + 1).toNatClampNeg r_18)))]) (isC := [0, 1]) (isR := [2]) h hR (ct_X0_number (a := a) (a_kinds := a_kinds) (a_town := a_town) (a_tried := a_tried) (a_fell := a_fell) (a_tape := a_tape) (a_read := a_read) (a_undos := a_undos) (a_kept := a_kept) (a_keptUndos := a_keptUndos) (a_sheets := a_sheets) (a_taken := a_taken) (x1 := 0) (x2 := 99) (falls := falls) (tears := tears) (typed := typed) (place := place_36) (isKept := isKept) (tape := tape) hv) rfl rfl (lw_V q334 q336 qs8 q70 q337) (by decide +kernel) rfl ⟨rfl, rfl, rfl, rfl, by decide⟩ ⟨fle rfl, fle rfl, fle rfl, fle rfl, fle rfl⟩ rfl dX0_readsPerson_114 (pin (perm := [1, 2, 0]) (ws' := [(a, .inr (0, [.ref a_kinds, .ref a_town, .ref a_tried, .ref a_fell, .int falls, .int tears, .ref a_tape, .int typed, .int place_41, .ref a_read, .ref a_undos, .ref a_kept, .ref a_keptUndos, .int isKept, .ref a_sheets, .ref a_taken])), (a_tape, .inl (X.E 0, 90, .inl tape)), (a_read, .inl (X.E 1, 40, .inl (upd (upd read x1.toNatClampNeg z_7) (x1 + 1).toNatClampNeg r_18)))]) (stk := [.int r_40, .int (x1 + 2), .ref a_read]) rfl rfl rfl ?_)
                    clear hv
                    obtain ⟨g44, hf⟩ := gn hf
                    refine g_iastore (ws' := [(a, .inr (0, [.ref a_kinds, .ref a_town, .ref a_tried, .ref a_fell, .int falls, .int tears, .ref a_tape, .int typed, .int place_41, .ref a_read, .ref a_undos, .ref a_kept, .ref a_keptUndos, .int isKept, .ref a_sheets, .ref a_taken])), (a_tape, .inl (X.E 0, 90, .inl tape)), (a_read, .inl (X.E 1, 40, .inl (upd (upd (upd read x1.toNatClampNeg z_7) (x1 + 1).toNatClampNeg r_18) (x1 + 2).toNatClampNeg r_40)))]) h 2 rfl g44 rfl dX0_readsPerson_117 ?_
                    exact nomatch hf
                  · obtain ⟨v_42, place_43, hz, hf⟩ := ob2 hf
                    replace hv := hv.trans hz
                    clear hz
                    refine g_callVT (ci := 0) (q0 := 0) (n := 2) (As := [.int 0, .int 99]) (st := [.int (x1 + 2), .ref a_read]) (wr := [(a_read, .inl (X.E 1, 40, .inl (upd (upd read x1.toNatClampNeg z_7) (x1 + 1).toNatClampNeg r_18)))]) (isC := [0, 1]) (isR := [2]) h hR hF hx (ctT_X0_number (a := a) (a_kinds := a_kinds) (a_town := a_town) (a_tried := a_tried) (a_fell := a_fell) (a_tape := a_tape) (a_read := a_read) (a_undos := a_undos) (a_kept := a_kept) (a_keptUndos := a_keptUndos) (a_sheets := a_sheets) (a_taken := a_taken) (x1 := 0) (x2 := 99) (falls := falls) (tears := tears) (typed := typed) (place := place_36) (isKept := isKept) (tape := tape) hfl hv) rfl rfl (lw_V q334 q336 qs8 q70 q337) (by decide +kernel) rfl ⟨rfl, rfl, rfl, rfl, by decide⟩ ⟨fle rfl, fle rfl, fle rfl, fle rfl, fle rfl⟩ rfl dX0_readsPerson_114 (fun C x w' hw => ?_)
                    obtain ⟨rfl, rfl⟩ := hw
                    obtain ⟨rfl, rfl, rfl⟩ := sj3 hf
                    exact ⟨[1, 2, 0, 3], _, rfl, by rfl, rfl, rfl⟩
                · refine g_bipush (v := (-4)) h dX0_readsPerson_105 kbipush_m4 ?_
                  refine g_goto (tgt := 117) h dX0_readsPerson_107 rfl ?_
                  obtain ⟨g45, hf⟩ := gn hf
                  refine g_iastore (ws' := [(a, .inr (0, [.ref a_kinds, .ref a_town, .ref a_tried, .ref a_fell, .int falls, .int tears, .ref a_tape, .int typed, .int place_36, .ref a_read, .ref a_undos, .ref a_kept, .ref a_keptUndos, .int isKept, .ref a_sheets, .ref a_taken])), (a_tape, .inl (X.E 0, 90, .inl tape)), (a_read, .inl (X.E 1, 40, .inl (upd (upd (upd read x1.toNatClampNeg z_7) (x1 + 1).toNatClampNeg r_18) (x1 + 2).toNatClampNeg (-4))))]) h 2 rfl g45 rfl dX0_readsPerson_117 ?_
                  exact nomatch hf
              · obtain ⟨v_37, place_38, hz, hf⟩ := ob2 hf
                replace hv := hv.trans hz
                clear hz
                refine g_callVT (ci := 0) (q0 := 0) (n := 1) (As := [.int z_31]) (st := []) (wr := [(a_tape, .inl (X.E 0, 90, .inl tape)), (a_read, .inl (X.E 1, 40, .inl (upd (upd read x1.toNatClampNeg z_7) (x1 + 1).toNatClampNeg r_18)))]) (isC := [0]) (isR := [1, 2]) h hR hF hx (ctT_X0_must (a := a) (a_kinds := a_kinds) (a_town := a_town) (a_tried := a_tried) (a_fell := a_fell) (a_tape := a_tape) (a_read := a_read) (a_undos := a_undos) (a_kept := a_kept) (a_keptUndos := a_keptUndos) (a_sheets := a_sheets) (a_taken := a_taken) (x1 := z_31) (falls := falls) (tears := tears) (typed := typed) (place := place_32) (isKept := isKept) hfl hv) rfl rfl (lw_V q422 q424 qs12 q70 q425) (by decide +kernel) rfl ⟨rfl, rfl, rfl, rfl, by decide⟩ ⟨fle rfl, fle rfl, fle rfl, fle rfl, fle rfl⟩ rfl dX0_readsPerson_91 (fun C x w' hw => ?_)
                obtain ⟨rfl, rfl⟩ := hw
                obtain ⟨rfl, rfl, rfl⟩ := sj3 hf
                exact ⟨[2, 0, 1, 3], _, rfl, by rfl, rfl, rfl⟩
            clear hf
            have hf := hw
            clear hw
            refine g_if_ne (tgt := 86) h dX0_readsPerson_74 rfl hf (fun c27 hf => ?_) (fun c27 hf => ?_)
            · refine g_aload_n h 1 dX0_readsPerson_77 rfl rfl ?_
              obtain ⟨r_33, place_34, hv, hf⟩ := ob2 hf
              refine g_callV (ci := 0) (q0 := 0) (n := 0) (As := []) (st := [.ref a]) (wr := [(a_read, .inl (X.E 1, 40, .inl (upd (upd read x1.toNatClampNeg z_7) (x1 + 1).toNatClampNeg r_18)))]) (isC := [0, 1]) (isR := [2]) h hR (ct_X0_here (a := a) (a_kinds := a_kinds) (a_town := a_town) (a_tried := a_tried) (a_fell := a_fell) (a_tape := a_tape) (a_read := a_read) (a_undos := a_undos) (a_kept := a_kept) (a_keptUndos := a_keptUndos) (a_sheets := a_sheets) (a_taken := a_taken) (falls := falls) (tears := tears) (typed := typed) (place := place_24) (isKept := isKept) (tape := tape) hv) rfl rfl (lw_V q338 q340 qs9 q70 q341) (by decide +kernel) rfl ⟨rfl, rfl, rfl, rfl, by decide⟩ ⟨fle rfl, fle rfl, fle rfl, fle rfl, fle rfl⟩ rfl dX0_readsPerson_78 (pin (perm := [1, 2, 0]) (ws' := [(a, .inr (0, [.ref a_kinds, .ref a_town, .ref a_tried, .ref a_fell, .int falls, .int tears, .ref a_tape, .int typed, .int place_34, .ref a_read, .ref a_undos, .ref a_kept, .ref a_keptUndos, .int isKept, .ref a_sheets, .ref a_taken])), (a_tape, .inl (X.E 0, 90, .inl tape)), (a_read, .inl (X.E 1, 40, .inl (upd (upd read x1.toNatClampNeg z_7) (x1 + 1).toNatClampNeg r_18)))]) (stk := [.int r_33, .ref a]) rfl rfl rfl ?_)
              clear hv
              refine g_bipush (v := 64) h dX0_readsPerson_81 kbipush_64 ?_
              refine g_icmp_ne (tgt := 90) h dX0_readsPerson_83 rfl hf (fun c35 hf => ?_) (fun c35 hf => ?_)
              · refine g_iconst (v := 1) h dX0_readsPerson_86 kiconst_1 ?_
                refine g_goto (tgt := 91) h dX0_readsPerson_87 rfl ?_
                obtain ⟨rfl, rfl⟩ := sj2 hf
                exact G.lsub [1, 2, 0] rfl K74
              · refine g_iconst (v := 0) h dX0_readsPerson_90 kiconst_0 ?_
                obtain ⟨rfl, rfl⟩ := sj2 hf
                exact G.lsub [1, 2, 0] rfl K74
            · refine g_iconst (v := 1) h dX0_readsPerson_86 kiconst_1 ?_
              refine g_goto (tgt := 91) h dX0_readsPerson_87 rfl ?_
              obtain ⟨rfl, rfl⟩ := sj2 hf
              exact G.lsub [1, 2, 0] rfl K74
          clear hf
          have hf := hw
          clear hw
          refine g_icmp_ne (tgt := 70) h dX0_readsPerson_63 rfl hf (fun c25 hf => ?_) (fun c25 hf => ?_)
          · refine g_iconst (v := 1) h dX0_readsPerson_66 kiconst_1 ?_
            refine g_goto (tgt := 71) h dX0_readsPerson_67 rfl ?_
            obtain rfl := sj1 hf
            exact G.lsub [0, 1] rfl K63
          · refine g_iconst (v := 0) h dX0_readsPerson_70 kiconst_0 ?_
            obtain rfl := sj1 hf
            exact G.lsub [0, 1] rfl K63
        · obtain ⟨v_20, place_21, hz, hf⟩ := ob2 hf
          replace hv := hv.trans hz
          clear hz
          refine g_callVT (ci := 0) (q0 := 0) (n := 2) (As := [.int 1, .int 30]) (st := [.int (x1 + 1), .ref a_read]) (wr := [(a_read, .inl (X.E 1, 40, .inl (upd read x1.toNatClampNeg z_7)))]) (isC := [0, 1]) (isR := [2]) h hR hF hx (ctT_X0_number (a := a) (a_kinds := a_kinds) (a_town := a_town) (a_tried := a_tried) (a_fell := a_fell) (a_tape := a_tape) (a_read := a_read) (a_undos := a_undos) (a_kept := a_kept) (a_keptUndos := a_keptUndos) (a_sheets := a_sheets) (a_taken := a_taken) (x1 := 1) (x2 := 30) (falls := falls) (tears := tears) (typed := typed) (place := place_14) (isKept := isKept) (tape := tape) hfl hv) rfl rfl (lw_V q334 q336 qs8 q70 q337) (by decide +kernel) rfl ⟨rfl, rfl, rfl, rfl, by decide⟩ ⟨fle rfl, fle rfl, fle rfl, fle rfl, fle rfl⟩ rfl dX0_readsPerson_53 (fun C x w' hw => ?_)
          obtain ⟨rfl, rfl⟩ := hw
          obtain ⟨rfl, rfl, rfl⟩ := sj3 hf
          exact ⟨[1, 2, 0, 3], _, rfl, by rfl, rfl, rfl⟩
      · obtain ⟨v_15, place_16, hz, hf⟩ := ob2 hf
        replace hv := hv.trans hz
        clear hz
        refine g_callVT (ci := 0) (q0 := 0) (n := 1) (As := [.int z_13]) (st := []) (wr := [(a_tape, .inl (X.E 0, 90, .inl tape)), (a_read, .inl (X.E 1, 40, .inl read))]) (isC := [0]) (isR := [1, 2]) h hR hF hx (ctT_X0_must (a := a) (a_kinds := a_kinds) (a_town := a_town) (a_tried := a_tried) (a_fell := a_fell) (a_tape := a_tape) (a_read := a_read) (a_undos := a_undos) (a_kept := a_kept) (a_keptUndos := a_keptUndos) (a_sheets := a_sheets) (a_taken := a_taken) (x1 := z_13) (falls := falls) (tears := tears) (typed := typed) (place := place_8) (isKept := isKept) hfl hv) rfl rfl (lw_V q422 q424 qs12 q70 q425) (by decide +kernel) rfl ⟨rfl, rfl, rfl, rfl, by decide⟩ ⟨fle rfl, fle rfl, fle rfl, fle rfl, fle rfl⟩ rfl dX0_readsPerson_32 (fun C x w' hw => ?_)
        obtain ⟨rfl, rfl⟩ := hw
        obtain ⟨rfl, rfl, rfl⟩ := sj3 hf
        exact ⟨[2, 0, 1, 3], _, rfl, by rfl, rfl, rfl⟩
    clear hf
    have hf := hw
    clear hw
    refine g_if_lt (tgt := 31) h dX0_readsPerson_24 rfl hf (fun c12 hf => ?_) (fun c12 hf => ?_)
    · refine g_iconst (v := 0) h dX0_readsPerson_31 kiconst_0 ?_
      obtain rfl := sj1 hf
      exact G.lsub [1, 2, 0] rfl K24
    · refine g_iconst (v := 1) h dX0_readsPerson_27 kiconst_1 ?_
      refine g_goto (tgt := 32) h dX0_readsPerson_28 rfl ?_
      obtain rfl := sj1 hf
      exact G.lsub [1, 2, 0] rfl K24
  clear hf
  have hf := hw
  clear hw
  refine g_if_ne (tgt := 12) h dX0_readsPerson_4 rfl hf (fun c3 hf => ?_) (fun c3 hf => ?_)
  · refine g_bipush (v := (-4)) h dX0_readsPerson_7 kbipush_m4 ?_
    refine g_goto (tgt := 21) h dX0_readsPerson_9 rfl ?_
    obtain ⟨rfl, rfl⟩ := sj2 hf
    exact G.lsub [0, 1] rfl K4
  · refine g_ldcS h dX0_readsPerson_12 ?_
    refine g_aload_n h 0 dX0_readsPerson_14 rfl rfl ?_
    obtain ⟨r_9, place_10, hv, hf⟩ := ob2 hf
    refine g_callV (ci := 0) (q0 := 0) (n := 0) (As := []) (st := [.ref (X.E 100)]) (wr := [(a_read, .inl (X.E 1, 40, .inl read))]) (isC := [0, 1]) (isR := [2]) h hR (ct_X0_here (a := a) (a_kinds := a_kinds) (a_town := a_town) (a_tried := a_tried) (a_fell := a_fell) (a_tape := a_tape) (a_read := a_read) (a_undos := a_undos) (a_kept := a_kept) (a_keptUndos := a_keptUndos) (a_sheets := a_sheets) (a_taken := a_taken) (falls := falls) (tears := tears) (typed := typed) (place := place_2) (isKept := isKept) (tape := tape) hv) rfl rfl (lw_V q338 q340 qs9 q70 q341) (by decide +kernel) rfl ⟨rfl, rfl, rfl, rfl, by decide⟩ ⟨fle rfl, fle rfl, fle rfl, fle rfl, fle rfl⟩ rfl dX0_readsPerson_15 (pin (perm := [1, 2, 0]) (ws' := [(a, .inr (0, [.ref a_kinds, .ref a_town, .ref a_tried, .ref a_fell, .int falls, .int tears, .ref a_tape, .int typed, .int place_10, .ref a_read, .ref a_undos, .ref a_kept, .ref a_keptUndos, .int isKept, .ref a_sheets, .ref a_taken])), (a_tape, .inl (X.E 0, 90, .inl tape)), (a_read, .inl (X.E 1, 40, .inl read))]) (stk := [.int r_9, .ref (X.E 100)]) rfl rfl rfl ?_)
    clear hv
    obtain ⟨r_11, hv, hf⟩ := ob1 hf
    refine g_callVK (n := 1) (As := [.int r_9]) (st := []) (wr := [(a, .inr (0, [.ref a_kinds, .ref a_town, .ref a_tried, .ref a_fell, .int falls, .int tears, .ref a_tape, .int typed, .int place_10, .ref a_read, .ref a_undos, .ref a_kept, .ref a_keptUndos, .int isKept, .ref a_sheets, .ref a_taken])), (a_tape, .inl (X.E 0, 90, .inl tape)), (a_read, .inl (X.E 1, 40, .inl read))]) (isC := []) (isR := [0, 1, 2]) h hR (ct_J5_indexOf (x1 := r_9) hv) (lw_V q435 q436 q437 q86 q438) (by decide +kernel) rfl ⟨rfl, rfl, rfl, rfl, by decide⟩ ⟨fle rfl, fle rfl, fle rfl, fle rfl, fle rfl⟩ rfl dX0_readsPerson_18 (pin (perm := [0, 1, 2]) (ws' := [(a, .inr (0, [.ref a_kinds, .ref a_town, .ref a_tried, .ref a_fell, .int falls, .int tears, .ref a_tape, .int typed, .int place_10, .ref a_read, .ref a_undos, .ref a_kept, .ref a_keptUndos, .int isKept, .ref a_sheets, .ref a_taken])), (a_tape, .inl (X.E 0, 90, .inl tape)), (a_read, .inl (X.E 1, 40, .inl read))]) (stk := [.int r_11]) rfl rfl rfl ?_)
    clear hv
    obtain ⟨rfl, rfl⟩ := sj2 hf
    exact G.lsub [0, 1] rfl K4
set_option maxHeartbeats 4000000 in
set_option maxRecDepth 100000 in
theorem w_X0_readsPeople_L2 {X : Cx} {a a_fell a_kept a_keptUndos a_kinds a_read a_sheets a_taken a_tape a_town a_tried a_undos : Nat} {falls : Int32} {tears : Int32} {typed : Int32} {isKept : Int32} {tape : Nat → Int32} {ce sl : Nat} (h : Ok X cX0_readsPeople RX0) (hR : Rm X 5 114 0 0) (hL : ∀ i, i < 3 → i < X.nL) (hce : ce ≤ 0) (hsl : sl ≤ 0) : ∀ (n0 : Nat) (x1 : Int32) (place : Int32) (read : Nat → Int32) {o_x1 : Int32} {o_place : Int32} {o_read : Nat → Int32}, f_X0_readsPeople_L2 typed tape n0 x1 place read = some (o_x1, o_place, o_read) → (G X [(a, .inr (0, [.ref a_kinds, .ref a_town, .ref a_tried, .ref a_fell, .int falls, .int tears, .ref a_tape, .int typed, .int o_place, .ref a_read, .ref a_undos, .ref a_kept, .ref a_keptUndos, .int isKept, .ref a_sheets, .ref a_taken])), (a_tape, .inl (X.E 0, 90, .inl tape)), (a_read, .inl (X.E 1, 40, .inl o_read))] [(1, .int o_x1)] ce sl 19 []) → G X [(a, .inr (0, [.ref a_kinds, .ref a_town, .ref a_tried, .ref a_fell, .int falls, .int tears, .ref a_tape, .int typed, .int place, .ref a_read, .ref a_undos, .ref a_kept, .ref a_keptUndos, .int isKept, .ref a_sheets, .ref a_taken])), (a_tape, .inl (X.E 0, 90, .inl tape)), (a_read, .inl (X.E 1, 40, .inl read))] [(0, .ref a), (1, .int x1)] ce sl 2 [] := by
  intro n0
  induction n0 with
  | zero => intro x1 place read o_x1 o_place o_read hf; exact nomatch (show (none : Option _) = some _ from hf)
  | succ n0 ih =>
    intro x1 place read o_x1 o_place o_read hf k0
    replace hf : t_X0_readsPeople_L2 typed tape (f_X0_readsPeople_L2 typed tape n0) x1 place read = some (o_x1, o_place, o_read) := hf
    unfold t_X0_readsPeople_L2 at hf
    refine g_aload_n h 0 dX0_readsPeople_2 rfl rfl ?_
    refine g_iconst (v := 5) h dX0_readsPeople_3 kiconst_5 ?_
    refine g_iload_n h 1 dX0_readsPeople_4 rfl rfl ?_
    refine g_iinc (j := 1) (v := (x1 + 1)) (lv' := [(1, .int (x1 + 1)), (0, .ref a)]) h dX0_readsPeople_5 rfl (kinc_1 _) (hL 1 (fle rfl)) rfl ?_
    refine g_imul h dX0_readsPeople_8 ?_
    obtain ⟨place_1, read_2, hv, hf⟩ := ob2 hf
    refine g_callV (ci := 0) (q0 := 0) (n := 1) (As := [.int (5 * x1)]) (st := []) (wr := []) (isC := [0, 1, 2]) (isR := []) h hR (ct_X0_readsPerson (a := a) (a_kinds := a_kinds) (a_town := a_town) (a_tried := a_tried) (a_fell := a_fell) (a_tape := a_tape) (a_read := a_read) (a_undos := a_undos) (a_kept := a_kept) (a_keptUndos := a_keptUndos) (a_sheets := a_sheets) (a_taken := a_taken) (x1 := (5 * x1)) (falls := falls) (tears := tears) (typed := typed) (place := place) (isKept := isKept) (tape := tape) (read := read) hv) rfl rfl (lw_V q430 q432 qs14 q70 q433) (by decide +kernel) rfl ⟨rfl, rfl, rfl, rfl, by decide⟩ ⟨hce, hsl, fle rfl, fle rfl, fle rfl⟩ rfl dX0_readsPeople_9 (pin (perm := [0, 1, 2]) (ws' := [(a, .inr (0, [.ref a_kinds, .ref a_town, .ref a_tried, .ref a_fell, .int falls, .int tears, .ref a_tape, .int typed, .int place_1, .ref a_read, .ref a_undos, .ref a_kept, .ref a_keptUndos, .int isKept, .ref a_sheets, .ref a_taken])), (a_tape, .inl (X.E 0, 90, .inl tape)), (a_read, .inl (X.E 1, 40, .inl read_2))]) (stk := []) rfl rfl rfl ?_)
    clear hv
    refine g_aload_n h 1 dX0_readsPeople_12 rfl rfl ?_
    obtain ⟨r_3, place_4, hv, hf⟩ := ob2 hf
    refine g_callV (ci := 0) (q0 := 0) (n := 0) (As := []) (st := []) (wr := [(a_read, .inl (X.E 1, 40, .inl read_2))]) (isC := [0, 1]) (isR := [2]) h hR (ct_X0_here (a := a) (a_kinds := a_kinds) (a_town := a_town) (a_tried := a_tried) (a_fell := a_fell) (a_tape := a_tape) (a_read := a_read) (a_undos := a_undos) (a_kept := a_kept) (a_keptUndos := a_keptUndos) (a_sheets := a_sheets) (a_taken := a_taken) (falls := falls) (tears := tears) (typed := typed) (place := place_1) (isKept := isKept) (tape := tape) hv) rfl rfl (lw_V q338 q340 qs9 q70 q341) (by decide +kernel) rfl ⟨rfl, rfl, rfl, rfl, by decide⟩ ⟨hce, hsl, fle rfl, fle rfl, fle rfl⟩ rfl dX0_readsPeople_13 (pin (perm := [1, 2, 0]) (ws' := [(a, .inr (0, [.ref a_kinds, .ref a_town, .ref a_tried, .ref a_fell, .int falls, .int tears, .ref a_tape, .int typed, .int place_4, .ref a_read, .ref a_undos, .ref a_kept, .ref a_keptUndos, .int isKept, .ref a_sheets, .ref a_taken])), (a_tape, .inl (X.E 0, 90, .inl tape)), (a_read, .inl (X.E 1, 40, .inl read_2))]) (stk := [.int r_3]) rfl rfl rfl ?_)
    clear hv
    refine g_if_ne (tgt := 21) h dX0_readsPeople_16 rfl hf (fun c5 hf => ?_) (fun c5 hf => ?_)
    · obtain ⟨rfl, rfl, rfl⟩ := sj3 hf
      exact G.lsub [0] rfl k0
    · refine g_aload_n h 1 dX0_readsPeople_21 rfl rfl ?_
      refine g_aload_n h 1 dX0_readsPeople_22 rfl rfl ?_
      obtain ⟨r_6, place_7, hv, hf⟩ := ob2 hf
      refine g_callV (ci := 0) (q0 := 0) (n := 0) (As := []) (st := [.ref a]) (wr := [(a_read, .inl (X.E 1, 40, .inl read_2))]) (isC := [0, 1]) (isR := [2]) h hR (ct_X0_here (a := a) (a_kinds := a_kinds) (a_town := a_town) (a_tried := a_tried) (a_fell := a_fell) (a_tape := a_tape) (a_read := a_read) (a_undos := a_undos) (a_kept := a_kept) (a_keptUndos := a_keptUndos) (a_sheets := a_sheets) (a_taken := a_taken) (falls := falls) (tears := tears) (typed := typed) (place := place_4) (isKept := isKept) (tape := tape) hv) rfl rfl (lw_V q338 q340 qs9 q70 q341) (by decide +kernel) rfl ⟨rfl, rfl, rfl, rfl, by decide⟩ ⟨hce, hsl, fle rfl, fle rfl, fle rfl⟩ rfl dX0_readsPeople_23 (pin (perm := [1, 2, 0]) (ws' := [(a, .inr (0, [.ref a_kinds, .ref a_town, .ref a_tried, .ref a_fell, .int falls, .int tears, .ref a_tape, .int typed, .int place_7, .ref a_read, .ref a_undos, .ref a_kept, .ref a_keptUndos, .int isKept, .ref a_sheets, .ref a_taken])), (a_tape, .inl (X.E 0, 90, .inl tape)), (a_read, .inl (X.E 1, 40, .inl read_2))]) (stk := [.int r_6, .ref a]) rfl rfl rfl ?_)
      clear hv
      refine g_bipush (v := 45) h dX0_readsPeople_26 kbipush_45 ?_
      obtain ⟨z_10, hw, hf⟩ := ob1 hf
      have K28 : G X [(a, .inr (0, [.ref a_kinds, .ref a_town, .ref a_tried, .ref a_fell, .int falls, .int tears, .ref a_tape, .int typed, .int place_7, .ref a_read, .ref a_undos, .ref a_kept, .ref a_keptUndos, .int isKept, .ref a_sheets, .ref a_taken])), (a_tape, .inl (X.E 0, 90, .inl tape)), (a_read, .inl (X.E 1, 40, .inl read_2))] [(0, .ref a), (1, .int (x1 + 1))] ce sl 42 [.int z_10, .ref a] := by
        clear hw
        obtain ⟨place_12, hv, hf⟩ := ob1 hf
        refine g_callV (ci := 0) (q0 := 0) (n := 1) (As := [.int z_10]) (st := []) (wr := [(a_tape, .inl (X.E 0, 90, .inl tape)), (a_read, .inl (X.E 1, 40, .inl read_2))]) (isC := [0]) (isR := [1, 2]) h hR (ct_X0_must (a := a) (a_kinds := a_kinds) (a_town := a_town) (a_tried := a_tried) (a_fell := a_fell) (a_tape := a_tape) (a_read := a_read) (a_undos := a_undos) (a_kept := a_kept) (a_keptUndos := a_keptUndos) (a_sheets := a_sheets) (a_taken := a_taken) (x1 := z_10) (falls := falls) (tears := tears) (typed := typed) (place := place_7) (isKept := isKept) hv) rfl rfl (lw_V q422 q424 qs12 q70 q425) (by decide +kernel) rfl ⟨rfl, rfl, rfl, rfl, by decide⟩ ⟨hce, hsl, fle rfl, fle rfl, fle rfl⟩ rfl dX0_readsPeople_42 (pin (perm := [2, 0, 1]) (ws' := [(a, .inr (0, [.ref a_kinds, .ref a_town, .ref a_tried, .ref a_fell, .int falls, .int tears, .ref a_tape, .int typed, .int place_12, .ref a_read, .ref a_undos, .ref a_kept, .ref a_keptUndos, .int isKept, .ref a_sheets, .ref a_taken])), (a_tape, .inl (X.E 0, 90, .inl tape)), (a_read, .inl (X.E 1, 40, .inl read_2))]) (stk := []) rfl rfl rfl ?_)
        clear hv
        refine g_aload_n h 0 dX0_readsPeople_45 rfl rfl ?_
        refine g_get (ci := 0) (v := .ref a_read) h in_X0 0 9 rfl rfl (fle rfl) rfl q1120 rfl dX0_readsPeople_46 ?_
        refine g_iconst (v := 5) h dX0_readsPeople_49 kiconst_5 ?_
        refine g_iload_n h 1 dX0_readsPeople_50 rfl rfl ?_
        refine g_imul h dX0_readsPeople_51 ?_
        refine g_iconst (v := 3) h dX0_readsPeople_52 kiconst_3 ?_
        refine g_iadd h dX0_readsPeople_53 ?_
        refine g_aload_n h 0 dX0_readsPeople_54 rfl rfl ?_
        refine g_iconst (v := 1) h dX0_readsPeople_55 kiconst_1 ?_
        refine g_bipush (v := 20) h dX0_readsPeople_56 kbipush_20 ?_
        obtain ⟨r_13, place_14, hv, hf⟩ := ob2 hf
        refine g_callV (ci := 0) (q0 := 0) (n := 2) (As := [.int 1, .int 20]) (st := [.int ((5 * (x1 + 1)) + 3), .ref a_read]) (wr := [(a_read, .inl (X.E 1, 40, .inl read_2))]) (isC := [0, 1]) (isR := [2]) h hR (ct_X0_number (a := a) (a_kinds := a_kinds) (a_town := a_town) (a_tried := a_tried) (a_fell := a_fell) (a_tape := a_tape) (a_read := a_read) (a_undos := a_undos) (a_kept := a_kept) (a_keptUndos := a_keptUndos) (a_sheets := a_sheets) (a_taken := a_taken) (x1 := 1) (x2 := 20) (falls := falls) (tears := tears) (typed := typed) (place := place_12) (isKept := isKept) (tape := tape) hv) rfl rfl (lw_V q334 q336 qs8 q70 q337) (by decide +kernel) rfl ⟨rfl, rfl, rfl, rfl, by decide⟩ ⟨hce, hsl, fle rfl, fle rfl, fle rfl⟩ rfl dX0_readsPeople_58 (pin (perm := [1, 2, 0]) (ws' := [(a, .inr (0, [.ref a_kinds, .ref a_town, .ref a_tried, .ref a_fell, .int falls, .int tears, .ref a_tape, .int typed, .int place_14, .ref a_read, .ref a_undos, .ref a_kept, .ref a_keptUndos, .int isKept, .ref a_sheets, .ref a_taken])), (a_tape, .inl (X.E 0, 90, .inl tape)), (a_read, .inl (X.E 1, 40, .inl read_2))]) (stk := [.int r_13, .int ((5 * (x1 + 1)) + 3), .ref a_read]) rfl rfl rfl ?_)
        clear hv
        obtain ⟨g15, hf⟩ := gn hf
        refine g_iastore (ws' := [(a, .inr (0, [.ref a_kinds, .ref a_town, .ref a_tried, .ref a_fell, .int falls, .int tears, .ref a_tape, .int typed, .int place_14, .ref a_read, .ref a_undos, .ref a_kept, .ref a_keptUndos, .int isKept, .ref a_sheets, .ref a_taken])), (a_tape, .inl (X.E 0, 90, .inl tape)), (a_read, .inl (X.E 1, 40, .inl (upd read_2 ((5 * (x1 + 1)) + 3).toNatClampNeg r_13)))]) h 2 rfl g15 rfl dX0_readsPeople_61 ?_
        refine g_aload_n h 0 dX0_readsPeople_62 rfl rfl ?_
        refine g_aload_n h 0 dX0_readsPeople_63 rfl rfl ?_
        obtain ⟨r_16, place_17, hv, hf⟩ := ob2 hf
        refine g_callV (ci := 0) (q0 := 0) (n := 0) (As := []) (st := [.ref a]) (wr := [(a_read, .inl (X.E 1, 40, .inl (upd read_2 ((5 * (x1 + 1)) + 3).toNatClampNeg r_13)))]) (isC := [0, 1]) (isR := [2]) h hR (ct_X0_here (a := a) (a_kinds := a_kinds) (a_town := a_town) (a_tried := a_tried) (a_fell := a_fell) (a_tape := a_tape) (a_read := a_read) (a_undos := a_undos) (a_kept := a_kept) (a_keptUndos := a_keptUndos) (a_sheets := a_sheets) (a_taken := a_taken) (falls := falls) (tears := tears) (typed := typed) (place := place_14) (isKept := isKept) (tape := tape) hv) rfl rfl (lw_V q338 q340 qs9 q70 q341) (by decide +kernel) rfl ⟨rfl, rfl, rfl, rfl, by decide⟩ ⟨hce, hsl, fle rfl, fle rfl, fle rfl⟩ rfl dX0_readsPeople_64 (pin (perm := [1, 2, 0]) (ws' := [(a, .inr (0, [.ref a_kinds, .ref a_town, .ref a_tried, .ref a_fell, .int falls, .int tears, .ref a_tape, .int typed, .int place_17, .ref a_read, .ref a_undos, .ref a_kept, .ref a_keptUndos, .int isKept, .ref a_sheets, .ref a_taken])), (a_tape, .inl (X.E 0, 90, .inl tape)), (a_read, .inl (X.E 1, 40, .inl (upd read_2 ((5 * (x1 + 1)) + 3).toNatClampNeg r_13)))]) (stk := [.int r_16, .ref a]) rfl rfl rfl ?_)
        clear hv
        refine g_bipush (v := 120) h dX0_readsPeople_67 kbipush_120 ?_
        obtain ⟨z_19, hw, hf⟩ := ob1 hf
        have K69 : G X [(a, .inr (0, [.ref a_kinds, .ref a_town, .ref a_tried, .ref a_fell, .int falls, .int tears, .ref a_tape, .int typed, .int place_17, .ref a_read, .ref a_undos, .ref a_kept, .ref a_keptUndos, .int isKept, .ref a_sheets, .ref a_taken])), (a_tape, .inl (X.E 0, 90, .inl tape)), (a_read, .inl (X.E 1, 40, .inl (upd read_2 ((5 * (x1 + 1)) + 3).toNatClampNeg r_13)))] [(0, .ref a), (1, .int (x1 + 1))] ce sl 77 [.int z_19, .ref a] := by
          clear hw
          obtain ⟨place_20, hv, hf⟩ := ob1 hf
          refine g_callV (ci := 0) (q0 := 0) (n := 1) (As := [.int z_19]) (st := []) (wr := [(a_tape, .inl (X.E 0, 90, .inl tape)), (a_read, .inl (X.E 1, 40, .inl (upd read_2 ((5 * (x1 + 1)) + 3).toNatClampNeg r_13)))]) (isC := [0]) (isR := [1, 2]) h hR (ct_X0_must (a := a) (a_kinds := a_kinds) (a_town := a_town) (a_tried := a_tried) (a_fell := a_fell) (a_tape := a_tape) (a_read := a_read) (a_undos := a_undos) (a_kept := a_kept) (a_keptUndos := a_keptUndos) (a_sheets := a_sheets) (a_taken := a_taken) (x1 := z_19) (falls := falls) (tears := tears) (typed := typed) (place := place_17) (isKept := isKept) hv) rfl rfl (lw_V q422 q424 qs12 q70 q425) (by decide +kernel) rfl ⟨rfl, rfl, rfl, rfl, by decide⟩ ⟨hce, hsl, fle rfl, fle rfl, fle rfl⟩ rfl dX0_readsPeople_77 (pin (perm := [2, 0, 1]) (ws' := [(a, .inr (0, [.ref a_kinds, .ref a_town, .ref a_tried, .ref a_fell, .int falls, .int tears, .ref a_tape, .int typed, .int place_20, .ref a_read, .ref a_undos, .ref a_kept, .ref a_keptUndos, .int isKept, .ref a_sheets, .ref a_taken])), (a_tape, .inl (X.E 0, 90, .inl tape)), (a_read, .inl (X.E 1, 40, .inl (upd read_2 ((5 * (x1 + 1)) + 3).toNatClampNeg r_13)))]) (stk := []) rfl rfl rfl ?_)
          clear hv
          refine g_aload_n h 0 dX0_readsPeople_80 rfl rfl ?_
          obtain ⟨r_21, place_22, hv, hf⟩ := ob2 hf
          refine g_callV (ci := 0) (q0 := 0) (n := 0) (As := []) (st := []) (wr := [(a_read, .inl (X.E 1, 40, .inl (upd read_2 ((5 * (x1 + 1)) + 3).toNatClampNeg r_13)))]) (isC := [0, 1]) (isR := [2]) h hR (ct_X0_here (a := a) (a_kinds := a_kinds) (a_town := a_town) (a_tried := a_tried) (a_fell := a_fell) (a_tape := a_tape) (a_read := a_read) (a_undos := a_undos) (a_kept := a_kept) (a_keptUndos := a_keptUndos) (a_sheets := a_sheets) (a_taken := a_taken) (falls := falls) (tears := tears) (typed := typed) (place := place_20) (isKept := isKept) (tape := tape) hv) rfl rfl (lw_V q338 q340 qs9 q70 q341) (by decide +kernel) rfl ⟨rfl, rfl, rfl, rfl, by decide⟩ ⟨hce, hsl, fle rfl, fle rfl, fle rfl⟩ rfl dX0_readsPeople_81 (pin (perm := [1, 2, 0]) (ws' := [(a, .inr (0, [.ref a_kinds, .ref a_town, .ref a_tried, .ref a_fell, .int falls, .int tears, .ref a_tape, .int typed, .int place_22, .ref a_read, .ref a_undos, .ref a_kept, .ref a_keptUndos, .int isKept, .ref a_sheets, .ref a_taken])), (a_tape, .inl (X.E 0, 90, .inl tape)), (a_read, .inl (X.E 1, 40, .inl (upd read_2 ((5 * (x1 + 1)) + 3).toNatClampNeg r_13)))]) (stk := [.int r_21]) rfl rfl rfl ?_)
          clear hv
          refine g_bipush (v := 48) h dX0_readsPeople_84 kbipush_48 ?_
          refine g_isub h dX0_readsPeople_86 ?_
          refine g_istore_n (lv' := [(2, .int (r_21 - 48)), (0, .ref a), (1, .int (x1 + 1))]) h dX0_readsPeople_87 rfl (hL 2 (fle rfl)) rfl ?_
          refine g_aload_n h 1 dX0_readsPeople_88 rfl rfl ?_
          refine g_iload_n h 0 dX0_readsPeople_89 rfl rfl ?_
          refine g_i2l h dX0_readsPeople_90 ?_
          refine g_lconst (v := 1) h dX0_readsPeople_91 rfl ?_
          refine g_ldc2 h q113 dX0_readsPeople_92 ?_
          obtain ⟨r_23, hv, hf⟩ := ob1 hf
          refine g_callS (n := 3) (As := [.long ((r_21 - 48).toInt64), .long 1, .long 9]) (st := [.ref a]) (wr := [(a, .inr (0, [.ref a_kinds, .ref a_town, .ref a_tried, .ref a_fell, .int falls, .int tears, .ref a_tape, .int typed, .int place_22, .ref a_read, .ref a_undos, .ref a_kept, .ref a_keptUndos, .int isKept, .ref a_sheets, .ref a_taken])), (a_tape, .inl (X.E 0, 90, .inl tape)), (a_read, .inl (X.E 1, 40, .inl (upd read_2 ((5 * (x1 + 1)) + 3).toNatClampNeg r_13)))]) (isC := []) (isR := [0, 1, 2]) h hR (ct_X0_in (x0 := (r_21 - 48).toInt64) (x2 := 1) (x4 := 9) hv) (lw_S q107 q108 q70 q109) (by decide +kernel) rfl ⟨rfl, rfl, rfl, rfl, by decide⟩ ⟨hce, hsl, fle rfl, fle rfl, fle rfl⟩ rfl dX0_readsPeople_95 (pin (perm := [0, 1, 2]) (ws' := [(a, .inr (0, [.ref a_kinds, .ref a_town, .ref a_tried, .ref a_fell, .int falls, .int tears, .ref a_tape, .int typed, .int place_22, .ref a_read, .ref a_undos, .ref a_kept, .ref a_keptUndos, .int isKept, .ref a_sheets, .ref a_taken])), (a_tape, .inl (X.E 0, 90, .inl tape)), (a_read, .inl (X.E 1, 40, .inl (upd read_2 ((5 * (x1 + 1)) + 3).toNatClampNeg r_13)))]) (stk := [.int r_23, .ref a]) rfl rfl rfl ?_)
          clear hv
          obtain ⟨place_24, hv, hf⟩ := ob1 hf
          refine g_callV (ci := 0) (q0 := 0) (n := 1) (As := [.int r_23]) (st := []) (wr := [(a_tape, .inl (X.E 0, 90, .inl tape)), (a_read, .inl (X.E 1, 40, .inl (upd read_2 ((5 * (x1 + 1)) + 3).toNatClampNeg r_13)))]) (isC := [0]) (isR := [1, 2]) h hR (ct_X0_must (a := a) (a_kinds := a_kinds) (a_town := a_town) (a_tried := a_tried) (a_fell := a_fell) (a_tape := a_tape) (a_read := a_read) (a_undos := a_undos) (a_kept := a_kept) (a_keptUndos := a_keptUndos) (a_sheets := a_sheets) (a_taken := a_taken) (x1 := r_23) (falls := falls) (tears := tears) (typed := typed) (place := place_22) (isKept := isKept) hv) rfl rfl (lw_V q422 q424 qs12 q70 q425) (by decide +kernel) rfl ⟨rfl, rfl, rfl, rfl, by decide⟩ ⟨hce, hsl, fle rfl, fle rfl, fle rfl⟩ rfl dX0_readsPeople_98 (pin (perm := [2, 0, 1]) (ws' := [(a, .inr (0, [.ref a_kinds, .ref a_town, .ref a_tried, .ref a_fell, .int falls, .int tears, .ref a_tape, .int typed, .int place_24, .ref a_read, .ref a_undos, .ref a_kept, .ref a_keptUndos, .int isKept, .ref a_sheets, .ref a_taken])), (a_tape, .inl (X.E 0, 90, .inl tape)), (a_read, .inl (X.E 1, 40, .inl (upd read_2 ((5 * (x1 + 1)) + 3).toNatClampNeg r_13)))]) (stk := []) rfl rfl rfl ?_)
          clear hv
          refine g_aload_n h 1 dX0_readsPeople_101 rfl rfl ?_
          refine g_get (ci := 0) (v := .ref a_read) h in_X0 0 9 rfl rfl (fle rfl) rfl q1120 rfl dX0_readsPeople_102 ?_
          refine g_iconst (v := 5) h dX0_readsPeople_105 kiconst_5 ?_
          refine g_iload_n h 2 dX0_readsPeople_106 rfl rfl ?_
          refine g_imul h dX0_readsPeople_107 ?_
          refine g_iconst (v := 4) h dX0_readsPeople_108 kiconst_4 ?_
          refine g_iadd h dX0_readsPeople_109 ?_
          refine g_iload_n h 0 dX0_readsPeople_110 rfl rfl ?_
          obtain ⟨g25, hf⟩ := gn hf
          refine g_iastore (ws' := [(a, .inr (0, [.ref a_kinds, .ref a_town, .ref a_tried, .ref a_fell, .int falls, .int tears, .ref a_tape, .int typed, .int place_24, .ref a_read, .ref a_undos, .ref a_kept, .ref a_keptUndos, .int isKept, .ref a_sheets, .ref a_taken])), (a_tape, .inl (X.E 0, 90, .inl tape)), (a_read, .inl (X.E 1, 40, .inl (upd (upd read_2 ((5 * (x1 + 1)) + 3).toNatClampNeg r_13) ((5 * (x1 + 1)) + 4).toNatClampNeg (r_21 - 48))))]) h 2 rfl g25 rfl dX0_readsPeople_111 ?_
          refine g_goto (tgt := 2) h dX0_readsPeople_112 rfl ?_
          exact G.lsub [1, 2] rfl (ih _ _ _ hf k0)
        clear hf
        have hf := hw
        clear hw
        refine g_icmp_ne (tgt := 76) h dX0_readsPeople_69 rfl hf (fun c18 hf => ?_) (fun c18 hf => ?_)
        · refine g_iconst (v := 1) h dX0_readsPeople_72 kiconst_1 ?_
          refine g_goto (tgt := 77) h dX0_readsPeople_73 rfl ?_
          obtain rfl := sj1 hf
          exact G.lsub [0, 1] rfl K69
        · refine g_iconst (v := 0) h dX0_readsPeople_76 kiconst_0 ?_
          obtain rfl := sj1 hf
          exact G.lsub [0, 1] rfl K69
      clear hf
      have hf := hw
      clear hw
      refine g_icmp_ne (tgt := 41) h dX0_readsPeople_28 rfl hf (fun c8 hf => ?_) (fun c8 hf => ?_)
      · refine g_iload_n h 0 dX0_readsPeople_31 rfl rfl ?_
        refine g_bipush (v := 8) h dX0_readsPeople_32 kbipush_8 ?_
        refine g_icmp_ge (tgt := 41) h dX0_readsPeople_34 rfl hf (fun c11 hf => ?_) (fun c11 hf => ?_)
        · refine g_iconst (v := 0) h dX0_readsPeople_41 kiconst_0 ?_
          obtain rfl := sj1 hf
          exact G.lsub [1, 0] rfl K28
        · refine g_iconst (v := 1) h dX0_readsPeople_37 kiconst_1 ?_
          refine g_goto (tgt := 42) h dX0_readsPeople_38 rfl ?_
          obtain rfl := sj1 hf
          exact G.lsub [1, 0] rfl K28
      · refine g_iconst (v := 0) h dX0_readsPeople_41 kiconst_0 ?_
        obtain rfl := sj1 hf
        exact G.lsub [1, 0] rfl K28
set_option maxHeartbeats 4000000 in
set_option maxRecDepth 100000 in
theorem ct_X0_readsPeople {l : Launch} {D : va_G} {E : Ety} {a a_kinds a_town a_tried a_fell a_tape a_read a_undos a_kept a_keptUndos a_sheets a_taken : Nat} {falls : Int32} {tears : Int32} {typed : Int32} {place : Int32} {isKept : Int32} {tape : Nat → Int32} {read : Nat → Int32} {r_ : Int32} {o_place : Int32} {o_read : Nat → Int32} (hf : f_X0_readsPeople typed place tape read = some (r_, o_place, o_read)) : Ct l yX0_readsPeople cX0_readsPeople 3 (some .int) 5 114 0 0 D E [.ref a] [(a, .inr (0, [.ref a_kinds, .ref a_town, .ref a_tried, .ref a_fell, .int falls, .int tears, .ref a_tape, .int typed, .int place, .ref a_read, .ref a_undos, .ref a_kept, .ref a_keptUndos, .int isKept, .ref a_sheets, .ref a_taken])), (a_tape, .inl (E 0, 90, .inl tape)), (a_read, .inl (E 1, 40, .inl read))] (Pn (some (.int r_)) [(a, .inr (0, [.ref a_kinds, .ref a_town, .ref a_tried, .ref a_fell, .int falls, .int tears, .ref a_tape, .int typed, .int o_place, .ref a_read, .ref a_undos, .ref a_kept, .ref a_keptUndos, .int isKept, .ref a_sheets, .ref a_taken])), (a_tape, .inl (E 0, 90, .inl tape)), (a_read, .inl (E 1, 40, .inl o_read))]) := by
  refine ct_of (own := RX0) (plainFor_of_name (by decide)) rfl (fle rfl) rfl ?_
  intro X hl hD hE hnL hXF h hR hF hnm
  subst hl; subst hD; subst hE
  have hL : ∀ i, i < 3 → i < X.nL := fun i hi => by rw [hnL]; exact hi
  unfold f_X0_readsPeople at hf
  refine g_iconst (v := 0) h dX0_readsPeople_0 kiconst_0 ?_
  refine g_istore_n (lv' := [(1, .int 0), (0, .ref a)]) h dX0_readsPeople_1 rfl (hL 1 (fle rfl)) rfl ?_
  refine G.lsub (lv' := [(0, .ref a), (1, .int 0)]) [1, 0] rfl ?_
  obtain ⟨x1_26, place_27, read_28, hv, hf⟩ := ob3 hf
  refine w_X0_readsPeople_L2 (falls := falls) (tears := tears) (typed := typed) (isKept := isKept) (tape := tape) h hR hL (fle rfl) (fle rfl) FU _ _ _ hv ?_
  · clear hv
    refine g_iload_n h 0 dX0_readsPeople_19 rfl rfl ?_
    obtain ⟨rfl, rfl, rfl⟩ := sj3 hf
    exact g_iret h hF [0, 1, 2] rfl rfl ⟨rfl, rfl⟩ (fle rfl) (fle rfl) dX0_readsPeople_20
set_option maxHeartbeats 4000000 in
set_option maxRecDepth 100000 in
theorem w_X0_readsPeopleE_L2 {X : Cx} {a a_fell a_kept a_keptUndos a_kinds a_read a_sheets a_taken a_tape a_town a_tried a_undos : Nat} {falls : Int32} {tears : Int32} {typed : Int32} {isKept : Int32} {tape : Nat → Int32} (h : Ok X cX0_readsPeople RX0) (hR : Rm X 7 167 1 7) (hfl : X.l.flags = flags0) (hx : X.c.exceptionTable.toList = []) (hL : ∀ i, i < 3 → i < X.nL) : ∀ (n0 : Nat) (x1 : Int32) (place : Int32) (read : Nat → Int32) {v_ : Int32} {o_place : Int32} {o_read : Nat → Int32}, FinT X 1 7 (fun C x w => C = "OneElastic$Fault" ∧ w = [(a, .inr (0, [.ref a_kinds, .ref a_town, .ref a_tried, .ref a_fell, .int falls, .int tears, .ref a_tape, .int typed, .int o_place, .ref a_read, .ref a_undos, .ref a_kept, .ref a_keptUndos, .int isKept, .ref a_sheets, .ref a_taken])), (a_tape, .inl (X.E 0, 90, .inl tape)), (a_read, .inl (X.E 1, 40, .inl o_read))] ++ [(x, .inr (13, [.int v_]))]) → f_X0_readsPeopleE_L2 typed tape n0 x1 place read = some (v_, o_place, o_read) → G X [(a, .inr (0, [.ref a_kinds, .ref a_town, .ref a_tried, .ref a_fell, .int falls, .int tears, .ref a_tape, .int typed, .int place, .ref a_read, .ref a_undos, .ref a_kept, .ref a_keptUndos, .int isKept, .ref a_sheets, .ref a_taken])), (a_tape, .inl (X.E 0, 90, .inl tape)), (a_read, .inl (X.E 1, 40, .inl read))] [(0, .ref a), (1, .int x1)] 0 0 2 [] := by
  intro n0
  induction n0 with
  | zero => intro x1 place read v_ o_place o_read hF hf; exact nomatch (show (none : Option _) = some _ from hf)
  | succ n0 ih =>
    intro x1 place read v_ o_place o_read hF hf
    replace hf : t_X0_readsPeopleE_L2 typed tape (f_X0_readsPeopleE_L2 typed tape n0) x1 place read = some (v_, o_place, o_read) := hf
    unfold t_X0_readsPeopleE_L2 at hf
    refine g_aload_n h 0 dX0_readsPeople_2 rfl rfl ?_
    refine g_iconst (v := 5) h dX0_readsPeople_3 kiconst_5 ?_
    refine g_iload_n h 1 dX0_readsPeople_4 rfl rfl ?_
    refine g_iinc (j := 1) (v := (x1 + 1)) (lv' := [(1, .int (x1 + 1)), (0, .ref a)]) h dX0_readsPeople_5 rfl (kinc_1 _) (hL 1 (fle rfl)) rfl ?_
    refine g_imul h dX0_readsPeople_8 ?_
    refine ox_at hf (fun z hv hf => ?_) (fun z hv hf => ?_)
    · obtain ⟨place_1, read_2, hz, hf⟩ := ob2 hf
      replace hv := hv.trans hz
      clear hz
      refine g_callV (ci := 0) (q0 := 0) (n := 1) (As := [.int (5 * x1)]) (st := []) (wr := []) (isC := [0, 1, 2]) (isR := []) h hR (ct_X0_readsPerson (a := a) (a_kinds := a_kinds) (a_town := a_town) (a_tried := a_tried) (a_fell := a_fell) (a_tape := a_tape) (a_read := a_read) (a_undos := a_undos) (a_kept := a_kept) (a_keptUndos := a_keptUndos) (a_sheets := a_sheets) (a_taken := a_taken) (x1 := (5 * x1)) (falls := falls) (tears := tears) (typed := typed) (place := place) (isKept := isKept) (tape := tape) (read := read) hv) rfl rfl (lw_V q430 q432 qs14 q70 q433) (by decide +kernel) rfl ⟨rfl, rfl, rfl, rfl, by decide⟩ ⟨fle rfl, fle rfl, fle rfl, fle rfl, fle rfl⟩ rfl dX0_readsPeople_9 (pin (perm := [0, 1, 2]) (ws' := [(a, .inr (0, [.ref a_kinds, .ref a_town, .ref a_tried, .ref a_fell, .int falls, .int tears, .ref a_tape, .int typed, .int place_1, .ref a_read, .ref a_undos, .ref a_kept, .ref a_keptUndos, .int isKept, .ref a_sheets, .ref a_taken])), (a_tape, .inl (X.E 0, 90, .inl tape)), (a_read, .inl (X.E 1, 40, .inl read_2))]) (stk := []) rfl rfl rfl ?_)
      clear hv
      refine g_aload_n h 1 dX0_readsPeople_12 rfl rfl ?_
      obtain ⟨r_6, place_7, hv, hf⟩ := ob2 hf
      refine g_callV (ci := 0) (q0 := 0) (n := 0) (As := []) (st := []) (wr := [(a_read, .inl (X.E 1, 40, .inl read_2))]) (isC := [0, 1]) (isR := [2]) h hR (ct_X0_here (a := a) (a_kinds := a_kinds) (a_town := a_town) (a_tried := a_tried) (a_fell := a_fell) (a_tape := a_tape) (a_read := a_read) (a_undos := a_undos) (a_kept := a_kept) (a_keptUndos := a_keptUndos) (a_sheets := a_sheets) (a_taken := a_taken) (falls := falls) (tears := tears) (typed := typed) (place := place_1) (isKept := isKept) (tape := tape) hv) rfl rfl (lw_V q338 q340 qs9 q70 q341) (by decide +kernel) rfl ⟨rfl, rfl, rfl, rfl, by decide⟩ ⟨fle rfl, fle rfl, fle rfl, fle rfl, fle rfl⟩ rfl dX0_readsPeople_13 (pin (perm := [1, 2, 0]) (ws' := [(a, .inr (0, [.ref a_kinds, .ref a_town, .ref a_tried, .ref a_fell, .int falls, .int tears, .ref a_tape, .int typed, .int place_7, .ref a_read, .ref a_undos, .ref a_kept, .ref a_keptUndos, .int isKept, .ref a_sheets, .ref a_taken])), (a_tape, .inl (X.E 0, 90, .inl tape)), (a_read, .inl (X.E 1, 40, .inl read_2))]) (stk := [.int r_6]) rfl rfl rfl ?_)
      clear hv
      refine g_if_ne (tgt := 21) h dX0_readsPeople_16 rfl hf (fun c8 hf => ?_) (fun c8 hf => ?_)
      · refine g_iload_n h 0 dX0_readsPeople_19 rfl rfl ?_
        exact nomatch hf
      · refine g_aload_n h 1 dX0_readsPeople_21 rfl rfl ?_
        refine g_aload_n h 1 dX0_readsPeople_22 rfl rfl ?_
        obtain ⟨r_9, place_10, hv, hf⟩ := ob2 hf
        refine g_callV (ci := 0) (q0 := 0) (n := 0) (As := []) (st := [.ref a]) (wr := [(a_read, .inl (X.E 1, 40, .inl read_2))]) (isC := [0, 1]) (isR := [2]) h hR (ct_X0_here (a := a) (a_kinds := a_kinds) (a_town := a_town) (a_tried := a_tried) (a_fell := a_fell) (a_tape := a_tape) (a_read := a_read) (a_undos := a_undos) (a_kept := a_kept) (a_keptUndos := a_keptUndos) (a_sheets := a_sheets) (a_taken := a_taken) (falls := falls) (tears := tears) (typed := typed) (place := place_7) (isKept := isKept) (tape := tape) hv) rfl rfl (lw_V q338 q340 qs9 q70 q341) (by decide +kernel) rfl ⟨rfl, rfl, rfl, rfl, by decide⟩ ⟨fle rfl, fle rfl, fle rfl, fle rfl, fle rfl⟩ rfl dX0_readsPeople_23 (pin (perm := [1, 2, 0]) (ws' := [(a, .inr (0, [.ref a_kinds, .ref a_town, .ref a_tried, .ref a_fell, .int falls, .int tears, .ref a_tape, .int typed, .int place_10, .ref a_read, .ref a_undos, .ref a_kept, .ref a_keptUndos, .int isKept, .ref a_sheets, .ref a_taken])), (a_tape, .inl (X.E 0, 90, .inl tape)), (a_read, .inl (X.E 1, 40, .inl read_2))]) (stk := [.int r_9, .ref a]) rfl rfl rfl ?_)
        clear hv
        refine g_bipush (v := 45) h dX0_readsPeople_26 kbipush_45 ?_
        obtain ⟨z_13, hw, hf⟩ := ob1 hf
        have K28 : G X [(a, .inr (0, [.ref a_kinds, .ref a_town, .ref a_tried, .ref a_fell, .int falls, .int tears, .ref a_tape, .int typed, .int place_10, .ref a_read, .ref a_undos, .ref a_kept, .ref a_keptUndos, .int isKept, .ref a_sheets, .ref a_taken])), (a_tape, .inl (X.E 0, 90, .inl tape)), (a_read, .inl (X.E 1, 40, .inl read_2))] [(0, .ref a), (1, .int (x1 + 1))] 0 0 42 [.int z_13, .ref a] := by
          clear hw
          refine ox_at hf (fun z hv hf => ?_) (fun z hv hf => ?_)
          · obtain ⟨place_15, hz, hf⟩ := ob1 hf
            replace hv := hv.trans hz
            clear hz
            refine g_callV (ci := 0) (q0 := 0) (n := 1) (As := [.int z_13]) (st := []) (wr := [(a_tape, .inl (X.E 0, 90, .inl tape)), (a_read, .inl (X.E 1, 40, .inl read_2))]) (isC := [0]) (isR := [1, 2]) h hR (ct_X0_must (a := a) (a_kinds := a_kinds) (a_town := a_town) (a_tried := a_tried) (a_fell := a_fell) (a_tape := a_tape) (a_read := a_read) (a_undos := a_undos) (a_kept := a_kept) (a_keptUndos := a_keptUndos) (a_sheets := a_sheets) (a_taken := a_taken) (x1 := z_13) (falls := falls) (tears := tears) (typed := typed) (place := place_10) (isKept := isKept) hv) rfl rfl (lw_V q422 q424 qs12 q70 q425) (by decide +kernel) rfl ⟨rfl, rfl, rfl, rfl, by decide⟩ ⟨fle rfl, fle rfl, fle rfl, fle rfl, fle rfl⟩ rfl dX0_readsPeople_42 (pin (perm := [2, 0, 1]) (ws' := [(a, .inr (0, [.ref a_kinds, .ref a_town, .ref a_tried, .ref a_fell, .int falls, .int tears, .ref a_tape, .int typed, .int place_15, .ref a_read, .ref a_undos, .ref a_kept, .ref a_keptUndos, .int isKept, .ref a_sheets, .ref a_taken])), (a_tape, .inl (X.E 0, 90, .inl tape)), (a_read, .inl (X.E 1, 40, .inl read_2))]) (stk := []) rfl rfl rfl ?_)
            clear hv
            refine g_aload_n h 0 dX0_readsPeople_45 rfl rfl ?_
            refine g_get (ci := 0) (v := .ref a_read) h in_X0 0 9 rfl rfl (fle rfl) rfl q1120 rfl dX0_readsPeople_46 ?_
            refine g_iconst (v := 5) h dX0_readsPeople_49 kiconst_5 ?_
            refine g_iload_n h 1 dX0_readsPeople_50 rfl rfl ?_
            refine g_imul h dX0_readsPeople_51 ?_
            refine g_iconst (v := 3) h dX0_readsPeople_52 kiconst_3 ?_
            refine g_iadd h dX0_readsPeople_53 ?_
            refine g_aload_n h 0 dX0_readsPeople_54 rfl rfl ?_
            refine g_iconst (v := 1) h dX0_readsPeople_55 kiconst_1 ?_
            refine g_bipush (v := 20) h dX0_readsPeople_56 kbipush_20 ?_
            refine ox_at hf (fun z hv hf => ?_) (fun z hv hf => ?_)
            · obtain ⟨r_18, place_19, hz, hf⟩ := ob2 hf
              replace hv := hv.trans hz
              clear hz
              refine g_callV (ci := 0) (q0 := 0) (n := 2) (As := [.int 1, .int 20]) (st := [.int ((5 * (x1 + 1)) + 3), .ref a_read]) (wr := [(a_read, .inl (X.E 1, 40, .inl read_2))]) (isC := [0, 1]) (isR := [2]) h hR (ct_X0_number (a := a) (a_kinds := a_kinds) (a_town := a_town) (a_tried := a_tried) (a_fell := a_fell) (a_tape := a_tape) (a_read := a_read) (a_undos := a_undos) (a_kept := a_kept) (a_keptUndos := a_keptUndos) (a_sheets := a_sheets) (a_taken := a_taken) (x1 := 1) (x2 := 20) (falls := falls) (tears := tears) (typed := typed) (place := place_15) (isKept := isKept) (tape := tape) hv) rfl rfl (lw_V q334 q336 qs8 q70 q337) (by decide +kernel) rfl ⟨rfl, rfl, rfl, rfl, by decide⟩ ⟨fle rfl, fle rfl, fle rfl, fle rfl, fle rfl⟩ rfl dX0_readsPeople_58 (pin (perm := [1, 2, 0]) (ws' := [(a, .inr (0, [.ref a_kinds, .ref a_town, .ref a_tried, .ref a_fell, .int falls, .int tears, .ref a_tape, .int typed, .int place_19, .ref a_read, .ref a_undos, .ref a_kept, .ref a_keptUndos, .int isKept, .ref a_sheets, .ref a_taken])), (a_tape, .inl (X.E 0, 90, .inl tape)), (a_read, .inl (X.E 1, 40, .inl read_2))]) (stk := [.int r_18, .int ((5 * (x1 + 1)) + 3), .ref a_read]) rfl rfl rfl ?_)
              clear hv
              obtain ⟨g22, hf⟩ := gn hf
              refine g_iastore (ws' := [(a, .inr (0, [.ref a_kinds, .ref a_town, .ref a_tried, .ref a_fell, .int falls, .int tears, .ref a_tape, .int typed, .int place_19, .ref a_read, .ref a_undos, .ref a_kept, .ref a_keptUndos, .int isKept, .ref a_sheets, .ref a_taken])), (a_tape, .inl (X.E 0, 90, .inl tape)), (a_read, .inl (X.E 1, 40, .inl (upd read_2 ((5 * (x1 + 1)) + 3).toNatClampNeg r_18)))]) h 2 rfl g22 rfl dX0_readsPeople_61 ?_
              refine g_aload_n h 0 dX0_readsPeople_62 rfl rfl ?_
              refine g_aload_n h 0 dX0_readsPeople_63 rfl rfl ?_
              obtain ⟨r_23, place_24, hv, hf⟩ := ob2 hf
              refine g_callV (ci := 0) (q0 := 0) (n := 0) (As := []) (st := [.ref a]) (wr := [(a_read, .inl (X.E 1, 40, .inl (upd read_2 ((5 * (x1 + 1)) + 3).toNatClampNeg r_18)))]) (isC := [0, 1]) (isR := [2]) h hR (ct_X0_here (a := a) (a_kinds := a_kinds) (a_town := a_town) (a_tried := a_tried) (a_fell := a_fell) (a_tape := a_tape) (a_read := a_read) (a_undos := a_undos) (a_kept := a_kept) (a_keptUndos := a_keptUndos) (a_sheets := a_sheets) (a_taken := a_taken) (falls := falls) (tears := tears) (typed := typed) (place := place_19) (isKept := isKept) (tape := tape) hv) rfl rfl (lw_V q338 q340 qs9 q70 q341) (by decide +kernel) rfl ⟨rfl, rfl, rfl, rfl, by decide⟩ ⟨fle rfl, fle rfl, fle rfl, fle rfl, fle rfl⟩ rfl dX0_readsPeople_64 (pin (perm := [1, 2, 0]) (ws' := [(a, .inr (0, [.ref a_kinds, .ref a_town, .ref a_tried, .ref a_fell, .int falls, .int tears, .ref a_tape, .int typed, .int place_24, .ref a_read, .ref a_undos, .ref a_kept, .ref a_keptUndos, .int isKept, .ref a_sheets, .ref a_taken])), (a_tape, .inl (X.E 0, 90, .inl tape)), (a_read, .inl (X.E 1, 40, .inl (upd read_2 ((5 * (x1 + 1)) + 3).toNatClampNeg r_18)))]) (stk := [.int r_23, .ref a]) rfl rfl rfl ?_)
              clear hv
              refine g_bipush (v := 120) h dX0_readsPeople_67 kbipush_120 ?_
              obtain ⟨z_26, hw, hf⟩ := ob1 hf
              have K69 : G X [(a, .inr (0, [.ref a_kinds, .ref a_town, .ref a_tried, .ref a_fell, .int falls, .int tears, .ref a_tape, .int typed, .int place_24, .ref a_read, .ref a_undos, .ref a_kept, .ref a_keptUndos, .int isKept, .ref a_sheets, .ref a_taken])), (a_tape, .inl (X.E 0, 90, .inl tape)), (a_read, .inl (X.E 1, 40, .inl (upd read_2 ((5 * (x1 + 1)) + 3).toNatClampNeg r_18)))] [(0, .ref a), (1, .int (x1 + 1))] 0 0 77 [.int z_26, .ref a] := by
                clear hw
                refine ox_at hf (fun z hv hf => ?_) (fun z hv hf => ?_)
                · obtain ⟨place_27, hz, hf⟩ := ob1 hf
                  replace hv := hv.trans hz
                  clear hz
                  refine g_callV (ci := 0) (q0 := 0) (n := 1) (As := [.int z_26]) (st := []) (wr := [(a_tape, .inl (X.E 0, 90, .inl tape)), (a_read, .inl (X.E 1, 40, .inl (upd read_2 ((5 * (x1 + 1)) + 3).toNatClampNeg r_18)))]) (isC := [0]) (isR := [1, 2]) h hR (ct_X0_must (a := a) (a_kinds := a_kinds) (a_town := a_town) (a_tried := a_tried) (a_fell := a_fell) (a_tape := a_tape) (a_read := a_read) (a_undos := a_undos) (a_kept := a_kept) (a_keptUndos := a_keptUndos) (a_sheets := a_sheets) (a_taken := a_taken) (x1 := z_26) (falls := falls) (tears := tears) (typed := typed) (place := place_24) (isKept := isKept) hv) rfl rfl (lw_V q422 q424 qs12 q70 q425) (by decide +kernel) rfl ⟨rfl, rfl, rfl, rfl, by decide⟩ ⟨fle rfl, fle rfl, fle rfl, fle rfl, fle rfl⟩ rfl dX0_readsPeople_77 (pin (perm := [2, 0, 1]) (ws' := [(a, .inr (0, [.ref a_kinds, .ref a_town, .ref a_tried, .ref a_fell, .int falls, .int tears, .ref a_tape, .int typed, .int place_27, .ref a_read, .ref a_undos, .ref a_kept, .ref a_keptUndos, .int isKept, .ref a_sheets, .ref a_taken])), (a_tape, .inl (X.E 0, 90, .inl tape)), (a_read, .inl (X.E 1, 40, .inl (upd read_2 ((5 * (x1 + 1)) + 3).toNatClampNeg r_18)))]) (stk := []) rfl rfl rfl ?_)
                  clear hv
                  refine g_aload_n h 0 dX0_readsPeople_80 rfl rfl ?_
                  obtain ⟨r_30, place_31, hv, hf⟩ := ob2 hf
                  refine g_callV (ci := 0) (q0 := 0) (n := 0) (As := []) (st := []) (wr := [(a_read, .inl (X.E 1, 40, .inl (upd read_2 ((5 * (x1 + 1)) + 3).toNatClampNeg r_18)))]) (isC := [0, 1]) (isR := [2]) h hR (ct_X0_here (a := a) (a_kinds := a_kinds) (a_town := a_town) (a_tried := a_tried) (a_fell := a_fell) (a_tape := a_tape) (a_read := a_read) (a_undos := a_undos) (a_kept := a_kept) (a_keptUndos := a_keptUndos) (a_sheets := a_sheets) (a_taken := a_taken) (falls := falls) (tears := tears) (typed := typed) (place := place_27) (isKept := isKept) (tape := tape) hv) rfl rfl (lw_V q338 q340 qs9 q70 q341) (by decide +kernel) rfl ⟨rfl, rfl, rfl, rfl, by decide⟩ ⟨fle rfl, fle rfl, fle rfl, fle rfl, fle rfl⟩ rfl dX0_readsPeople_81 (pin (perm := [1, 2, 0]) (ws' := [(a, .inr (0, [.ref a_kinds, .ref a_town, .ref a_tried, .ref a_fell, .int falls, .int tears, .ref a_tape, .int typed, .int place_31, .ref a_read, .ref a_undos, .ref a_kept, .ref a_keptUndos, .int isKept, .ref a_sheets, .ref a_taken])), (a_tape, .inl (X.E 0, 90, .inl tape)), (a_read, .inl (X.E 1, 40, .inl (upd read_2 ((5 * (x1 + 1)) + 3).toNatClampNeg r_18)))]) (stk := [.int r_30]) rfl rfl rfl ?_)
                  clear hv
                  refine g_bipush (v := 48) h dX0_readsPeople_84 kbipush_48 ?_
                  refine g_isub h dX0_readsPeople_86 ?_
                  refine g_istore_n (lv' := [(2, .int (r_30 - 48)), (0, .ref a), (1, .int (x1 + 1))]) h dX0_readsPeople_87 rfl (hL 2 (fle rfl)) rfl ?_
                  refine g_aload_n h 1 dX0_readsPeople_88 rfl rfl ?_
                  refine g_iload_n h 0 dX0_readsPeople_89 rfl rfl ?_
                  refine g_i2l h dX0_readsPeople_90 ?_
                  refine g_lconst (v := 1) h dX0_readsPeople_91 rfl ?_
                  refine g_ldc2 h q113 dX0_readsPeople_92 ?_
                  obtain ⟨r_32, hv, hf⟩ := ob1 hf
                  refine g_callS (n := 3) (As := [.long ((r_30 - 48).toInt64), .long 1, .long 9]) (st := [.ref a]) (wr := [(a, .inr (0, [.ref a_kinds, .ref a_town, .ref a_tried, .ref a_fell, .int falls, .int tears, .ref a_tape, .int typed, .int place_31, .ref a_read, .ref a_undos, .ref a_kept, .ref a_keptUndos, .int isKept, .ref a_sheets, .ref a_taken])), (a_tape, .inl (X.E 0, 90, .inl tape)), (a_read, .inl (X.E 1, 40, .inl (upd read_2 ((5 * (x1 + 1)) + 3).toNatClampNeg r_18)))]) (isC := []) (isR := [0, 1, 2]) h hR (ct_X0_in (x0 := (r_30 - 48).toInt64) (x2 := 1) (x4 := 9) hv) (lw_S q107 q108 q70 q109) (by decide +kernel) rfl ⟨rfl, rfl, rfl, rfl, by decide⟩ ⟨fle rfl, fle rfl, fle rfl, fle rfl, fle rfl⟩ rfl dX0_readsPeople_95 (pin (perm := [0, 1, 2]) (ws' := [(a, .inr (0, [.ref a_kinds, .ref a_town, .ref a_tried, .ref a_fell, .int falls, .int tears, .ref a_tape, .int typed, .int place_31, .ref a_read, .ref a_undos, .ref a_kept, .ref a_keptUndos, .int isKept, .ref a_sheets, .ref a_taken])), (a_tape, .inl (X.E 0, 90, .inl tape)), (a_read, .inl (X.E 1, 40, .inl (upd read_2 ((5 * (x1 + 1)) + 3).toNatClampNeg r_18)))]) (stk := [.int r_32, .ref a]) rfl rfl rfl ?_)
                  clear hv
                  refine ox_at hf (fun z hv hf => ?_) (fun z hv hf => ?_)
                  · obtain ⟨place_33, hz, hf⟩ := ob1 hf
                    replace hv := hv.trans hz
                    clear hz
                    refine g_callV (ci := 0) (q0 := 0) (n := 1) (As := [.int r_32]) (st := []) (wr := [(a_tape, .inl (X.E 0, 90, .inl tape)), (a_read, .inl (X.E 1, 40, .inl (upd read_2 ((5 * (x1 + 1)) + 3).toNatClampNeg r_18)))]) (isC := [0]) (isR := [1, 2]) h hR (ct_X0_must (a := a) (a_kinds := a_kinds) (a_town := a_town) (a_tried := a_tried) (a_fell := a_fell) (a_tape := a_tape) (a_read := a_read) (a_undos := a_undos) (a_kept := a_kept) (a_keptUndos := a_keptUndos) (a_sheets := a_sheets) (a_taken := a_taken) (x1 := r_32) (falls := falls) (tears := tears) (typed := typed) (place := place_31) (isKept := isKept) hv) rfl rfl (lw_V q422 q424 qs12 q70 q425) (by decide +kernel) rfl ⟨rfl, rfl, rfl, rfl, by decide⟩ ⟨fle rfl, fle rfl, fle rfl, fle rfl, fle rfl⟩ rfl dX0_readsPeople_98 (pin (perm := [2, 0, 1]) (ws' := [(a, .inr (0, [.ref a_kinds, .ref a_town, .ref a_tried, .ref a_fell, .int falls, .int tears, .ref a_tape, .int typed, .int place_33, .ref a_read, .ref a_undos, .ref a_kept, .ref a_keptUndos, .int isKept, .ref a_sheets, .ref a_taken])), (a_tape, .inl (X.E 0, 90, .inl tape)), (a_read, .inl (X.E 1, 40, .inl (upd read_2 ((5 * (x1 + 1)) + 3).toNatClampNeg r_18)))]) (stk := []) rfl rfl rfl ?_)
                    clear hv
                    refine g_aload_n h 1 dX0_readsPeople_101 rfl rfl ?_
                    refine g_get (ci := 0) (v := .ref a_read) h in_X0 0 9 rfl rfl (fle rfl) rfl q1120 rfl dX0_readsPeople_102 ?_
                    refine g_iconst (v := 5) h dX0_readsPeople_105 kiconst_5 ?_
                    refine g_iload_n h 2 dX0_readsPeople_106 rfl rfl ?_
                    refine g_imul h dX0_readsPeople_107 ?_
                    refine g_iconst (v := 4) h dX0_readsPeople_108 kiconst_4 ?_
                    refine g_iadd h dX0_readsPeople_109 ?_
                    refine g_iload_n h 0 dX0_readsPeople_110 rfl rfl ?_
                    obtain ⟨g36, hf⟩ := gn hf
                    refine g_iastore (ws' := [(a, .inr (0, [.ref a_kinds, .ref a_town, .ref a_tried, .ref a_fell, .int falls, .int tears, .ref a_tape, .int typed, .int place_33, .ref a_read, .ref a_undos, .ref a_kept, .ref a_keptUndos, .int isKept, .ref a_sheets, .ref a_taken])), (a_tape, .inl (X.E 0, 90, .inl tape)), (a_read, .inl (X.E 1, 40, .inl (upd (upd read_2 ((5 * (x1 + 1)) + 3).toNatClampNeg r_18) ((5 * (x1 + 1)) + 4).toNatClampNeg (r_30 - 48))))]) h 2 rfl g36 rfl dX0_readsPeople_111 ?_
                    refine g_goto (tgt := 2) h dX0_readsPeople_112 rfl ?_
                    exact G.lsub [1, 2] rfl (ih _ _ _ hF hf)
                  · obtain ⟨v_34, place_35, hz, hf⟩ := ob2 hf
                    replace hv := hv.trans hz
                    clear hz
                    refine g_callVT (ci := 0) (q0 := 0) (n := 1) (As := [.int r_32]) (st := []) (wr := [(a_tape, .inl (X.E 0, 90, .inl tape)), (a_read, .inl (X.E 1, 40, .inl (upd read_2 ((5 * (x1 + 1)) + 3).toNatClampNeg r_18)))]) (isC := [0]) (isR := [1, 2]) h hR hF hx (ctT_X0_must (a := a) (a_kinds := a_kinds) (a_town := a_town) (a_tried := a_tried) (a_fell := a_fell) (a_tape := a_tape) (a_read := a_read) (a_undos := a_undos) (a_kept := a_kept) (a_keptUndos := a_keptUndos) (a_sheets := a_sheets) (a_taken := a_taken) (x1 := r_32) (falls := falls) (tears := tears) (typed := typed) (place := place_31) (isKept := isKept) hfl hv) rfl rfl (lw_V q422 q424 qs12 q70 q425) (by decide +kernel) rfl ⟨rfl, rfl, rfl, rfl, by decide⟩ ⟨fle rfl, fle rfl, fle rfl, fle rfl, fle rfl⟩ rfl dX0_readsPeople_98 (fun C x w' hw => ?_)
                    obtain ⟨rfl, rfl⟩ := hw
                    obtain ⟨rfl, rfl, rfl⟩ := sj3 hf
                    exact ⟨[2, 0, 1, 3], _, rfl, by rfl, rfl, rfl⟩
                · obtain ⟨v_28, place_29, hz, hf⟩ := ob2 hf
                  replace hv := hv.trans hz
                  clear hz
                  refine g_callVT (ci := 0) (q0 := 0) (n := 1) (As := [.int z_26]) (st := []) (wr := [(a_tape, .inl (X.E 0, 90, .inl tape)), (a_read, .inl (X.E 1, 40, .inl (upd read_2 ((5 * (x1 + 1)) + 3).toNatClampNeg r_18)))]) (isC := [0]) (isR := [1, 2]) h hR hF hx (ctT_X0_must (a := a) (a_kinds := a_kinds) (a_town := a_town) (a_tried := a_tried) (a_fell := a_fell) (a_tape := a_tape) (a_read := a_read) (a_undos := a_undos) (a_kept := a_kept) (a_keptUndos := a_keptUndos) (a_sheets := a_sheets) (a_taken := a_taken) (x1 := z_26) (falls := falls) (tears := tears) (typed := typed) (place := place_24) (isKept := isKept) hfl hv) rfl rfl (lw_V q422 q424 qs12 q70 q425) (by decide +kernel) rfl ⟨rfl, rfl, rfl, rfl, by decide⟩ ⟨fle rfl, fle rfl, fle rfl, fle rfl, fle rfl⟩ rfl dX0_readsPeople_77 (fun C x w' hw => ?_)
                  obtain ⟨rfl, rfl⟩ := hw
                  obtain ⟨rfl, rfl, rfl⟩ := sj3 hf
                  exact ⟨[2, 0, 1, 3], _, rfl, by rfl, rfl, rfl⟩
              clear hf
              have hf := hw
              clear hw
              refine g_icmp_ne (tgt := 76) h dX0_readsPeople_69 rfl hf (fun c25 hf => ?_) (fun c25 hf => ?_)
              · refine g_iconst (v := 1) h dX0_readsPeople_72 kiconst_1 ?_
                refine g_goto (tgt := 77) h dX0_readsPeople_73 rfl ?_
                obtain rfl := sj1 hf
                exact G.lsub [0, 1] rfl K69
              · refine g_iconst (v := 0) h dX0_readsPeople_76 kiconst_0 ?_
                obtain rfl := sj1 hf
                exact G.lsub [0, 1] rfl K69
            · obtain ⟨v_20, place_21, hz, hf⟩ := ob2 hf
              replace hv := hv.trans hz
              clear hz
              refine g_callVT (ci := 0) (q0 := 0) (n := 2) (As := [.int 1, .int 20]) (st := [.int ((5 * (x1 + 1)) + 3), .ref a_read]) (wr := [(a_read, .inl (X.E 1, 40, .inl read_2))]) (isC := [0, 1]) (isR := [2]) h hR hF hx (ctT_X0_number (a := a) (a_kinds := a_kinds) (a_town := a_town) (a_tried := a_tried) (a_fell := a_fell) (a_tape := a_tape) (a_read := a_read) (a_undos := a_undos) (a_kept := a_kept) (a_keptUndos := a_keptUndos) (a_sheets := a_sheets) (a_taken := a_taken) (x1 := 1) (x2 := 20) (falls := falls) (tears := tears) (typed := typed) (place := place_15) (isKept := isKept) (tape := tape) hfl hv) rfl rfl (lw_V q334 q336 qs8 q70 q337) (by decide +kernel) rfl ⟨rfl, rfl, rfl, rfl, by decide⟩ ⟨fle rfl, fle rfl, fle rfl, fle rfl, fle rfl⟩ rfl dX0_readsPeople_58 (fun C x w' hw => ?_)
              obtain ⟨rfl, rfl⟩ := hw
              obtain ⟨rfl, rfl, rfl⟩ := sj3 hf
              exact ⟨[1, 2, 0, 3], _, rfl, by rfl, rfl, rfl⟩
          · obtain ⟨v_16, place_17, hz, hf⟩ := ob2 hf
            replace hv := hv.trans hz
            clear hz
            refine g_callVT (ci := 0) (q0 := 0) (n := 1) (As := [.int z_13]) (st := []) (wr := [(a_tape, .inl (X.E 0, 90, .inl tape)), (a_read, .inl (X.E 1, 40, .inl read_2))]) (isC := [0]) (isR := [1, 2]) h hR hF hx (ctT_X0_must (a := a) (a_kinds := a_kinds) (a_town := a_town) (a_tried := a_tried) (a_fell := a_fell) (a_tape := a_tape) (a_read := a_read) (a_undos := a_undos) (a_kept := a_kept) (a_keptUndos := a_keptUndos) (a_sheets := a_sheets) (a_taken := a_taken) (x1 := z_13) (falls := falls) (tears := tears) (typed := typed) (place := place_10) (isKept := isKept) hfl hv) rfl rfl (lw_V q422 q424 qs12 q70 q425) (by decide +kernel) rfl ⟨rfl, rfl, rfl, rfl, by decide⟩ ⟨fle rfl, fle rfl, fle rfl, fle rfl, fle rfl⟩ rfl dX0_readsPeople_42 (fun C x w' hw => ?_)
            obtain ⟨rfl, rfl⟩ := hw
            obtain ⟨rfl, rfl, rfl⟩ := sj3 hf
            exact ⟨[2, 0, 1, 3], _, rfl, by rfl, rfl, rfl⟩
        clear hf
        have hf := hw
        clear hw
        refine g_icmp_ne (tgt := 41) h dX0_readsPeople_28 rfl hf (fun c11 hf => ?_) (fun c11 hf => ?_)
        · refine g_iload_n h 0 dX0_readsPeople_31 rfl rfl ?_
          refine g_bipush (v := 8) h dX0_readsPeople_32 kbipush_8 ?_
          refine g_icmp_ge (tgt := 41) h dX0_readsPeople_34 rfl hf (fun c14 hf => ?_) (fun c14 hf => ?_)
          · refine g_iconst (v := 0) h dX0_readsPeople_41 kiconst_0 ?_
            obtain rfl := sj1 hf
            exact G.lsub [1, 0] rfl K28
          · refine g_iconst (v := 1) h dX0_readsPeople_37 kiconst_1 ?_
            refine g_goto (tgt := 42) h dX0_readsPeople_38 rfl ?_
            obtain rfl := sj1 hf
            exact G.lsub [1, 0] rfl K28
        · refine g_iconst (v := 0) h dX0_readsPeople_41 kiconst_0 ?_
          obtain rfl := sj1 hf
          exact G.lsub [1, 0] rfl K28
    · obtain ⟨v_3, place_4, read_5, hz, hf⟩ := ob3 hf
      replace hv := hv.trans hz
      clear hz
      refine g_callVT (ci := 0) (q0 := 0) (n := 1) (As := [.int (5 * x1)]) (st := []) (wr := []) (isC := [0, 1, 2]) (isR := []) h hR hF hx (ctT_X0_readsPerson (a := a) (a_kinds := a_kinds) (a_town := a_town) (a_tried := a_tried) (a_fell := a_fell) (a_tape := a_tape) (a_read := a_read) (a_undos := a_undos) (a_kept := a_kept) (a_keptUndos := a_keptUndos) (a_sheets := a_sheets) (a_taken := a_taken) (x1 := (5 * x1)) (falls := falls) (tears := tears) (typed := typed) (place := place) (isKept := isKept) (tape := tape) (read := read) hfl hv) rfl rfl (lw_V q430 q432 qs14 q70 q433) (by decide +kernel) rfl ⟨rfl, rfl, rfl, rfl, by decide⟩ ⟨fle rfl, fle rfl, fle rfl, fle rfl, fle rfl⟩ rfl dX0_readsPeople_9 (fun C x w' hw => ?_)
      obtain ⟨rfl, rfl⟩ := hw
      obtain ⟨rfl, rfl, rfl⟩ := sj3 hf
      exact ⟨[0, 1, 2, 3], _, rfl, by rfl, rfl, rfl⟩
set_option maxHeartbeats 4000000 in
set_option maxRecDepth 100000 in
theorem ctT_X0_readsPeople {l : Launch} {D : va_G} {E : Ety} {a a_kinds a_town a_tried a_fell a_tape a_read a_undos a_kept a_keptUndos a_sheets a_taken : Nat} {falls : Int32} {tears : Int32} {typed : Int32} {place : Int32} {isKept : Int32} {tape : Nat → Int32} {read : Nat → Int32} {v_ : Int32} {o_place : Int32} {o_read : Nat → Int32} (hfl : l.flags = flags0) (hf : e_X0_readsPeople typed place tape read = some (v_, o_place, o_read)) : CtT l yX0_readsPeople cX0_readsPeople 3 (some .int) 7 167 1 7 D E [.ref a] [(a, .inr (0, [.ref a_kinds, .ref a_town, .ref a_tried, .ref a_fell, .int falls, .int tears, .ref a_tape, .int typed, .int place, .ref a_read, .ref a_undos, .ref a_kept, .ref a_keptUndos, .int isKept, .ref a_sheets, .ref a_taken])), (a_tape, .inl (E 0, 90, .inl tape)), (a_read, .inl (E 1, 40, .inl read))] (fun C x w => C = "OneElastic$Fault" ∧ w = [(a, .inr (0, [.ref a_kinds, .ref a_town, .ref a_tried, .ref a_fell, .int falls, .int tears, .ref a_tape, .int typed, .int o_place, .ref a_read, .ref a_undos, .ref a_kept, .ref a_keptUndos, .int isKept, .ref a_sheets, .ref a_taken])), (a_tape, .inl (E 0, 90, .inl tape)), (a_read, .inl (E 1, 40, .inl o_read))] ++ [(x, .inr (13, [.int v_]))]) := by
  refine ct_ofT (own := RX0) (plainFor_of_name (by decide)) rfl (fle rfl) rfl ?_
  intro X hl hD hE hnL hXF h hR hF hx
  subst hl; subst hD; subst hE
  have hL : ∀ i, i < 3 → i < X.nL := fun i hi => by rw [hnL]; exact hi
  unfold e_X0_readsPeople at hf
  refine g_iconst (v := 0) h dX0_readsPeople_0 kiconst_0 ?_
  refine g_istore_n (lv' := [(1, .int 0), (0, .ref a)]) h dX0_readsPeople_1 rfl (hL 1 (fle rfl)) rfl ?_
  refine G.lsub (lv' := [(0, .ref a), (1, .int 0)]) [1, 0] rfl ?_
  exact w_X0_readsPeopleE_L2 h hR hfl hx hL FU _ _ _ hF hf
set_option maxHeartbeats 4000000 in
set_option maxRecDepth 100000 in
theorem w_X0_street_L86 {X : Cx} {a a_fell a_kept a_keptUndos a_kinds a_kinds_0 a_kinds_1 a_kinds_2 a_kinds_3 a_kinds_4 a_read a_sheets a_taken a_tape a_town a_town_gives a_town_kind a_town_length a_town_over a_town_place a_town_strength a_town_under a_tried a_undos : Nat} {x2 : Int32} {falls : Int32} {tears : Int32} {typed : Int32} {place : Int32} {isKept : Int32} {town_cuts : Int32} {town_hour : Int32} {town_bears : Int32} {town_draw : Int32} {town_over : Nat → Int32} {town_under : Nat → Int32} {fell : Nat → Int32} {tape : Nat → Int32} {read : Nat → Int32} {Us : List TV} {ce sl : Nat} (h : Ok X cX0_street RX0) (hR : Rm X 8 189 1 7) (hL : ∀ i, i < 6 → i < X.nL) (hce : ce ≤ 1) (hsl : sl ≤ 7) : ∀ (n0 : Nat) (x3 : Int32) (town_n : Int32) (town_holders : Int32) (town_kind : Nat → Int32) (town_strength : Nat → Int32) (town_place : Nat → Int32) (town_length : Nat → Int32) (town_gives : Nat → Int32) {o_town_n : Int32} {o_town_holders : Int32} {o_town_kind : Nat → Int32} {o_town_strength : Nat → Int32} {o_town_place : Nat → Int32} {o_town_length : Nat → Int32} {o_town_gives : Nat → Int32}, f_X0_street_L86 x2 read n0 x3 town_n town_holders town_kind town_strength town_place town_length town_gives = some (o_town_n, o_town_holders, o_town_kind, o_town_strength, o_town_place, o_town_length, o_town_gives) → (G X [(a, .inr (0, [.ref a_kinds, .ref a_town, .ref a_tried, .ref a_fell, .int falls, .int tears, .ref a_tape, .int typed, .int place, .ref a_read, .ref a_undos, .ref a_kept, .ref a_keptUndos, .int isKept, .ref a_sheets, .ref a_taken])), (a_kinds, .inl (X.E 5, 5, .inr (.inr (.inr (.inr (kq a_kinds_0 a_kinds_1 a_kinds_2 a_kinds_3 a_kinds_4)))))), (a_kinds_0, .inr (1, [])), (a_kinds_1, .inr (2, [])), (a_kinds_2, .inr (3, [])), (a_kinds_3, .inr (4, [])), (a_kinds_4, .inr (5, [])), (a_town, .inr (6, [.ref a_town_kind, .ref a_town_strength, .ref a_town_place, .ref a_town_length, .ref a_town_gives, .ref a_town_over, .ref a_town_under, .int o_town_n, .int o_town_holders, .int town_cuts, .int town_hour, .int town_bears, .int town_draw, .ref a])), (a_town_kind, .inl (X.E 0, 8, .inl o_town_kind)), (a_town_strength, .inl (X.E 0, 8, .inl o_town_strength)), (a_town_place, .inl (X.E 0, 8, .inl o_town_place)), (a_town_length, .inl (X.E 0, 8, .inl o_town_length)), (a_town_gives, .inl (X.E 0, 8, .inl o_town_gives)), (a_town_over, .inl (X.E 1, 8, .inl town_over)), (a_town_under, .inl (X.E 1, 8, .inl town_under)), (a_fell, .inl (X.E 1, 8, .inl fell)), (a_tape, .inl (X.E 0, 90, .inl tape)), (a_read, .inl (X.E 1, 40, .inl read))] [(0, .ref a), (2, .int x2)] ce sl 175 []) → G X [(a, .inr (0, [.ref a_kinds, .ref a_town, .ref a_tried, .ref a_fell, .int falls, .int tears, .ref a_tape, .int typed, .int place, .ref a_read, .ref a_undos, .ref a_kept, .ref a_keptUndos, .int isKept, .ref a_sheets, .ref a_taken])), (a_kinds, .inl (X.E 5, 5, .inr (.inr (.inr (.inr (kq a_kinds_0 a_kinds_1 a_kinds_2 a_kinds_3 a_kinds_4)))))), (a_kinds_0, .inr (1, [])), (a_kinds_1, .inr (2, [])), (a_kinds_2, .inr (3, [])), (a_kinds_3, .inr (4, [])), (a_kinds_4, .inr (5, [])), (a_town, .inr (6, [.ref a_town_kind, .ref a_town_strength, .ref a_town_place, .ref a_town_length, .ref a_town_gives, .ref a_town_over, .ref a_town_under, .int town_n, .int town_holders, .int town_cuts, .int town_hour, .int town_bears, .int town_draw, .ref a])), (a_town_kind, .inl (X.E 0, 8, .inl town_kind)), (a_town_strength, .inl (X.E 0, 8, .inl town_strength)), (a_town_place, .inl (X.E 0, 8, .inl town_place)), (a_town_length, .inl (X.E 0, 8, .inl town_length)), (a_town_gives, .inl (X.E 0, 8, .inl town_gives)), (a_town_over, .inl (X.E 1, 8, .inl town_over)), (a_town_under, .inl (X.E 1, 8, .inl town_under)), (a_fell, .inl (X.E 1, 8, .inl fell)), (a_tape, .inl (X.E 0, 90, .inl tape)), (a_read, .inl (X.E 1, 40, .inl read))] [(0, .ref a), (2, .int x2), (3, .int x3)] ce sl 86 [] := by
  intro n0
  induction n0 with
  | zero => intro x3 town_n town_holders town_kind town_strength town_place town_length town_gives o_town_n o_town_holders o_town_kind o_town_strength o_town_place o_town_length o_town_gives hf; exact nomatch (show (none : Option _) = some _ from hf)
  | succ n0 ih =>
    intro x3 town_n town_holders town_kind town_strength town_place town_length town_gives o_town_n o_town_holders o_town_kind o_town_strength o_town_place o_town_length o_town_gives hf k0
    replace hf : t_X0_street_L86 x2 read (f_X0_street_L86 x2 read n0) x3 town_n town_holders town_kind town_strength town_place town_length town_gives = some (o_town_n, o_town_holders, o_town_kind, o_town_strength, o_town_place, o_town_length, o_town_gives) := hf
    unfold t_X0_street_L86 at hf
    refine g_iload_n h 2 dX0_street_86 rfl rfl ?_
    refine g_iload_n h 1 dX0_street_87 rfl rfl ?_
    refine g_icmp_ge (tgt := 175) h dX0_street_88 rfl hf (fun c23 hf => ?_) (fun c23 hf => ?_)
    · obtain ⟨rfl, rfl, rfl, rfl, rfl, rfl, rfl⟩ := sj7 hf
      exact G.lsub [0, 1] rfl k0
    · refine g_iconst (v := 5) h dX0_street_91 kiconst_5 ?_
      refine g_iload_n h 2 dX0_street_92 rfl rfl ?_
      refine g_imul h dX0_street_93 ?_
      refine g_istore (lv' := [(4, .int (5 * x3)), (0, .ref a), (2, .int x2), (3, .int x3)]) h dX0_street_94 (hL 4 (fle rfl)) rfl ?_
      refine g_aload_n h 1 dX0_street_96 rfl rfl ?_
      refine g_aload_n h 1 dX0_street_97 rfl rfl ?_
      refine g_get (ci := 0) (v := .ref a_read) h in_X0 0 9 rfl rfl (fle rfl) rfl q1120 rfl dX0_street_98 ?_
      refine g_iload h 0 dX0_street_101 rfl ?_
      obtain ⟨g24, hf⟩ := gn hf
      refine g_iaload h 17 rfl g24 dX0_street_103 ?_
      refine g_aload_n h 1 dX0_street_104 rfl rfl ?_
      refine g_get (ci := 0) (v := .ref a_read) h in_X0 0 9 rfl rfl (fle rfl) rfl q1120 rfl dX0_street_105 ?_
      refine g_iload h 0 dX0_street_108 rfl ?_
      refine g_iconst (v := 1) h dX0_street_110 kiconst_1 ?_
      refine g_iadd h dX0_street_111 ?_
      obtain ⟨g25, hf⟩ := gn hf
      refine g_iaload h 17 rfl g25 dX0_street_112 ?_
      refine g_iconst (v := 0) h dX0_street_113 kiconst_0 ?_
      refine g_aload_n h 1 dX0_street_114 rfl rfl ?_
      refine g_get (ci := 0) (v := .ref a_read) h in_X0 0 9 rfl rfl (fle rfl) rfl q1120 rfl dX0_street_115 ?_
      refine g_iload h 0 dX0_street_118 rfl ?_
      refine g_iconst (v := 2) h dX0_street_120 kiconst_2 ?_
      refine g_iadd h dX0_street_121 ?_
      obtain ⟨g26, hf⟩ := gn hf
      refine g_iaload h 17 rfl g26 dX0_street_122 ?_
      obtain ⟨r_27, hv, hf⟩ := ob1 hf
      refine g_callS (n := 2) (As := [.int 0, .int (read ((5 * x3) + 2).toNatClampNeg)]) (st := [.int (read ((5 * x3) + 1).toNatClampNeg), .int (read (5 * x3).toNatClampNeg), .ref a]) (wr := [(a, .inr (0, [.ref a_kinds, .ref a_town, .ref a_tried, .ref a_fell, .int falls, .int tears, .ref a_tape, .int typed, .int place, .ref a_read, .ref a_undos, .ref a_kept, .ref a_keptUndos, .int isKept, .ref a_sheets, .ref a_taken])), (a_kinds, .inl (X.E 5, 5, .inr (.inr (.inr (.inr (kq a_kinds_0 a_kinds_1 a_kinds_2 a_kinds_3 a_kinds_4)))))), (a_kinds_0, .inr (1, [])), (a_kinds_1, .inr (2, [])), (a_kinds_2, .inr (3, [])), (a_kinds_3, .inr (4, [])), (a_kinds_4, .inr (5, [])), (a_town, .inr (6, [.ref a_town_kind, .ref a_town_strength, .ref a_town_place, .ref a_town_length, .ref a_town_gives, .ref a_town_over, .ref a_town_under, .int town_n, .int town_holders, .int town_cuts, .int town_hour, .int town_bears, .int town_draw, .ref a])), (a_town_kind, .inl (X.E 0, 8, .inl town_kind)), (a_town_strength, .inl (X.E 0, 8, .inl town_strength)), (a_town_place, .inl (X.E 0, 8, .inl town_place)), (a_town_length, .inl (X.E 0, 8, .inl town_length)), (a_town_gives, .inl (X.E 0, 8, .inl town_gives)), (a_town_over, .inl (X.E 1, 8, .inl town_over)), (a_town_under, .inl (X.E 1, 8, .inl town_under)), (a_fell, .inl (X.E 1, 8, .inl fell)), (a_tape, .inl (X.E 0, 90, .inl tape)), (a_read, .inl (X.E 1, 40, .inl read))]) (isC := []) (isR := [0, 1, 2, 3, 4, 5, 6, 7, 8, 9, 10, 11, 12, 13, 14, 15, 16, 17]) h hR (ct_J2_max (x0 := 0) (x1 := (read ((5 * x3) + 2).toNatClampNeg)) hv) (lw_S q519 q193 q81 q194) (by decide +kernel) rfl ⟨rfl, rfl, rfl, rfl, by decide⟩ ⟨hce, hsl, fle rfl, fle rfl, fle rfl⟩ rfl dX0_street_123 (pin (perm := [0, 1, 2, 3, 4, 5, 6, 7, 8, 9, 10, 11, 12, 13, 14, 15, 16, 17]) (ws' := [(a, .inr (0, [.ref a_kinds, .ref a_town, .ref a_tried, .ref a_fell, .int falls, .int tears, .ref a_tape, .int typed, .int place, .ref a_read, .ref a_undos, .ref a_kept, .ref a_keptUndos, .int isKept, .ref a_sheets, .ref a_taken])), (a_kinds, .inl (X.E 5, 5, .inr (.inr (.inr (.inr (kq a_kinds_0 a_kinds_1 a_kinds_2 a_kinds_3 a_kinds_4)))))), (a_kinds_0, .inr (1, [])), (a_kinds_1, .inr (2, [])), (a_kinds_2, .inr (3, [])), (a_kinds_3, .inr (4, [])), (a_kinds_4, .inr (5, [])), (a_town, .inr (6, [.ref a_town_kind, .ref a_town_strength, .ref a_town_place, .ref a_town_length, .ref a_town_gives, .ref a_town_over, .ref a_town_under, .int town_n, .int town_holders, .int town_cuts, .int town_hour, .int town_bears, .int town_draw, .ref a])), (a_town_kind, .inl (X.E 0, 8, .inl town_kind)), (a_town_strength, .inl (X.E 0, 8, .inl town_strength)), (a_town_place, .inl (X.E 0, 8, .inl town_place)), (a_town_length, .inl (X.E 0, 8, .inl town_length)), (a_town_gives, .inl (X.E 0, 8, .inl town_gives)), (a_town_over, .inl (X.E 1, 8, .inl town_over)), (a_town_under, .inl (X.E 1, 8, .inl town_under)), (a_fell, .inl (X.E 1, 8, .inl fell)), (a_tape, .inl (X.E 0, 90, .inl tape)), (a_read, .inl (X.E 1, 40, .inl read))]) (stk := [.int r_27, .int (read ((5 * x3) + 1).toNatClampNeg), .int (read (5 * x3).toNatClampNeg), .ref a]) rfl rfl rfl ?_)
      clear hv
      refine g_aload_n h 1 dX0_street_126 rfl rfl ?_
      refine g_get (ci := 0) (v := .ref a_read) h in_X0 0 9 rfl rfl (fle rfl) rfl q1120 rfl dX0_street_127 ?_
      refine g_iload h 0 dX0_street_130 rfl ?_
      refine g_iconst (v := 3) h dX0_street_132 kiconst_3 ?_
      refine g_iadd h dX0_street_133 ?_
      obtain ⟨g28, hf⟩ := gn hf
      refine g_iaload h 17 rfl g28 dX0_street_134 ?_
      refine g_aload_n h 1 dX0_street_135 rfl rfl ?_
      refine g_get (ci := 0) (v := .ref a_read) h in_X0 0 9 rfl rfl (fle rfl) rfl q1120 rfl dX0_street_136 ?_
      refine g_iload h 0 dX0_street_139 rfl ?_
      refine g_iconst (v := 4) h dX0_street_141 kiconst_4 ?_
      refine g_iadd h dX0_street_142 ?_
      obtain ⟨g29, hf⟩ := gn hf
      refine g_iaload h 17 rfl g29 dX0_street_143 ?_
      obtain ⟨town_n_30, town_holders_31, town_kind_32, town_strength_33, town_place_34, town_length_35, town_gives_36, hv, hf⟩ := ob7 hf
      refine g_callV (ci := 0) (q0 := 0) (n := 5) (As := [.int (read (5 * x3).toNatClampNeg), .int (read ((5 * x3) + 1).toNatClampNeg), .int r_27, .int (read ((5 * x3) + 3).toNatClampNeg), .int (read ((5 * x3) + 4).toNatClampNeg)]) (st := []) (wr := [(a_kinds, .inl (X.E 5, 5, .inr (.inr (.inr (.inr (kq a_kinds_0 a_kinds_1 a_kinds_2 a_kinds_3 a_kinds_4)))))), (a_kinds_0, .inr (1, [])), (a_kinds_1, .inr (2, [])), (a_kinds_2, .inr (3, [])), (a_kinds_3, .inr (4, [])), (a_kinds_4, .inr (5, [])), (a_town_over, .inl (X.E 1, 8, .inl town_over)), (a_town_under, .inl (X.E 1, 8, .inl town_under)), (a_fell, .inl (X.E 1, 8, .inl fell)), (a_tape, .inl (X.E 0, 90, .inl tape)), (a_read, .inl (X.E 1, 40, .inl read))]) (isC := [0, 7, 8, 9, 10, 11, 12]) (isR := [1, 2, 3, 4, 5, 6, 13, 14, 15, 16, 17]) h hR (ct_X0_comes (a := a) (a_kinds := a_kinds) (a_town := a_town) (a_tried := a_tried) (a_fell := a_fell) (a_tape := a_tape) (a_read := a_read) (a_undos := a_undos) (a_kept := a_kept) (a_keptUndos := a_keptUndos) (a_sheets := a_sheets) (a_taken := a_taken) (a_town_kind := a_town_kind) (a_town_strength := a_town_strength) (a_town_place := a_town_place) (a_town_length := a_town_length) (a_town_gives := a_town_gives) (a_town_over := a_town_over) (a_town_under := a_town_under) (x1 := (read (5 * x3).toNatClampNeg)) (x2 := (read ((5 * x3) + 1).toNatClampNeg)) (x3 := r_27) (x4 := (read ((5 * x3) + 3).toNatClampNeg)) (x5 := (read ((5 * x3) + 4).toNatClampNeg)) (falls := falls) (tears := tears) (typed := typed) (place := place) (isKept := isKept) (town_n := town_n) (town_holders := town_holders) (town_cuts := town_cuts) (town_hour := town_hour) (town_bears := town_bears) (town_draw := town_draw) (town_kind := town_kind) (town_strength := town_strength) (town_place := town_place) (town_length := town_length) (town_gives := town_gives) hv) rfl rfl (lw_V q114 q116 qs0 q70 q118) (by decide +kernel) rfl ⟨rfl, rfl, rfl, rfl, by decide⟩ ⟨hce, hsl, fle rfl, fle rfl, fle rfl⟩ rfl dX0_street_144 (pin (perm := [11, 0, 1, 2, 3, 4, 5, 12, 13, 14, 15, 16, 17, 6, 7, 8, 9, 10]) (ws' := [(a, .inr (0, [.ref a_kinds, .ref a_town, .ref a_tried, .ref a_fell, .int falls, .int tears, .ref a_tape, .int typed, .int place, .ref a_read, .ref a_undos, .ref a_kept, .ref a_keptUndos, .int isKept, .ref a_sheets, .ref a_taken])), (a_kinds, .inl (X.E 5, 5, .inr (.inr (.inr (.inr (kq a_kinds_0 a_kinds_1 a_kinds_2 a_kinds_3 a_kinds_4)))))), (a_kinds_0, .inr (1, [])), (a_kinds_1, .inr (2, [])), (a_kinds_2, .inr (3, [])), (a_kinds_3, .inr (4, [])), (a_kinds_4, .inr (5, [])), (a_town, .inr (6, [.ref a_town_kind, .ref a_town_strength, .ref a_town_place, .ref a_town_length, .ref a_town_gives, .ref a_town_over, .ref a_town_under, .int town_n_30, .int town_holders_31, .int town_cuts, .int town_hour, .int town_bears, .int town_draw, .ref a])), (a_town_kind, .inl (X.E 0, 8, .inl town_kind_32)), (a_town_strength, .inl (X.E 0, 8, .inl town_strength_33)), (a_town_place, .inl (X.E 0, 8, .inl town_place_34)), (a_town_length, .inl (X.E 0, 8, .inl town_length_35)), (a_town_gives, .inl (X.E 0, 8, .inl town_gives_36)), (a_town_over, .inl (X.E 1, 8, .inl town_over)), (a_town_under, .inl (X.E 1, 8, .inl town_under)), (a_fell, .inl (X.E 1, 8, .inl fell)), (a_tape, .inl (X.E 0, 90, .inl tape)), (a_read, .inl (X.E 1, 40, .inl read))]) (stk := []) rfl rfl rfl ?_)
      clear hv
      refine g_aload_n h 1 dX0_street_147 rfl rfl ?_
      refine g_get (ci := 0) (v := .ref a_read) h in_X0 0 9 rfl rfl (fle rfl) rfl q1120 rfl dX0_street_148 ?_
      refine g_iload h 0 dX0_street_151 rfl ?_
      refine g_iconst (v := 2) h dX0_street_153 kiconst_2 ?_
      refine g_iadd h dX0_street_154 ?_
      refine g_iaload h 17 rfl g26 dX0_street_155 ?_
      refine g_bipush (v := (-4)) h dX0_street_156 kbipush_m4 ?_
      refine g_icmp_ne (tgt := 169) h dX0_street_158 rfl hf (fun c37 hf => ?_) (fun c37 hf => ?_)
      · refine g_aload_n h 1 dX0_street_161 rfl rfl ?_
        refine g_get (ci := 0) (v := .ref a_town) h in_X0 0 1 rfl rfl (fle rfl) rfl q1112 rfl dX0_street_162 ?_
        refine g_iload_n h 3 dX0_street_165 rfl rfl ?_
        obtain ⟨town_holders_38, hv, hf⟩ := ob1 hf
        refine g_callV (ci := 6) (q0 := 7) (n := 1) (As := [.int x3]) (st := []) (wr := [(a, .inr (0, [.ref a_kinds, .ref a_town, .ref a_tried, .ref a_fell, .int falls, .int tears, .ref a_tape, .int typed, .int place, .ref a_read, .ref a_undos, .ref a_kept, .ref a_keptUndos, .int isKept, .ref a_sheets, .ref a_taken])), (a_kinds, .inl (X.E 5, 5, .inr (.inr (.inr (.inr (kq a_kinds_0 a_kinds_1 a_kinds_2 a_kinds_3 a_kinds_4)))))), (a_kinds_0, .inr (1, [])), (a_kinds_1, .inr (2, [])), (a_kinds_2, .inr (3, [])), (a_kinds_3, .inr (4, [])), (a_kinds_4, .inr (5, [])), (a_town_kind, .inl (X.E 0, 8, .inl town_kind_32)), (a_town_strength, .inl (X.E 0, 8, .inl town_strength_33)), (a_town_place, .inl (X.E 0, 8, .inl town_place_34)), (a_town_length, .inl (X.E 0, 8, .inl town_length_35)), (a_town_gives, .inl (X.E 0, 8, .inl town_gives_36)), (a_town_over, .inl (X.E 1, 8, .inl town_over)), (a_town_under, .inl (X.E 1, 8, .inl town_under)), (a_fell, .inl (X.E 1, 8, .inl fell)), (a_tape, .inl (X.E 0, 90, .inl tape)), (a_read, .inl (X.E 1, 40, .inl read))]) (isC := [7]) (isR := [0, 1, 2, 3, 4, 5, 6, 8, 9, 10, 11, 12, 13, 14, 15, 16, 17]) h hR (ct_X6_lets (a := a_town) (a_kind := a_town_kind) (a_strength := a_town_strength) (a_place := a_town_place) (a_length := a_town_length) (a_gives := a_town_gives) (a_over := a_town_over) (a_under := a_town_under) (a_this0 := a) (x1 := x3) (n := town_n_30) (holders := town_holders_31) (cuts := town_cuts) (hour := town_hour) (bears := town_bears) (draw := town_draw) hv) rfl rfl (lw_V q226 q227 q228 q76 q229) (by decide +kernel) rfl ⟨rfl, rfl, rfl, rfl, by decide⟩ ⟨hce, hsl, fle rfl, fle rfl, fle rfl⟩ rfl dX0_street_166 (pin (perm := [0, 1, 2, 3, 4, 5, 6, 17, 7, 8, 9, 10, 11, 12, 13, 14, 15, 16]) (ws' := [(a, .inr (0, [.ref a_kinds, .ref a_town, .ref a_tried, .ref a_fell, .int falls, .int tears, .ref a_tape, .int typed, .int place, .ref a_read, .ref a_undos, .ref a_kept, .ref a_keptUndos, .int isKept, .ref a_sheets, .ref a_taken])), (a_kinds, .inl (X.E 5, 5, .inr (.inr (.inr (.inr (kq a_kinds_0 a_kinds_1 a_kinds_2 a_kinds_3 a_kinds_4)))))), (a_kinds_0, .inr (1, [])), (a_kinds_1, .inr (2, [])), (a_kinds_2, .inr (3, [])), (a_kinds_3, .inr (4, [])), (a_kinds_4, .inr (5, [])), (a_town, .inr (6, [.ref a_town_kind, .ref a_town_strength, .ref a_town_place, .ref a_town_length, .ref a_town_gives, .ref a_town_over, .ref a_town_under, .int town_n_30, .int town_holders_38, .int town_cuts, .int town_hour, .int town_bears, .int town_draw, .ref a])), (a_town_kind, .inl (X.E 0, 8, .inl town_kind_32)), (a_town_strength, .inl (X.E 0, 8, .inl town_strength_33)), (a_town_place, .inl (X.E 0, 8, .inl town_place_34)), (a_town_length, .inl (X.E 0, 8, .inl town_length_35)), (a_town_gives, .inl (X.E 0, 8, .inl town_gives_36)), (a_town_over, .inl (X.E 1, 8, .inl town_over)), (a_town_under, .inl (X.E 1, 8, .inl town_under)), (a_fell, .inl (X.E 1, 8, .inl fell)), (a_tape, .inl (X.E 0, 90, .inl tape)), (a_read, .inl (X.E 1, 40, .inl read))]) (stk := []) rfl rfl rfl ?_)
        clear hv
        refine g_iinc (j := 3) (v := (x3 + 1)) (lv' := [(3, .int (x3 + 1)), (4, .int (5 * x3)), (0, .ref a), (2, .int x2)]) h dX0_street_169 rfl (kinc_1 _) (hL 3 (fle rfl)) rfl ?_
        refine g_goto (tgt := 86) h dX0_street_172 rfl ?_
        exact G.lsub [2, 3, 0] rfl (ih _ _ _ _ _ _ _ _ hf k0)
      · refine g_iinc (j := 3) (v := (x3 + 1)) (lv' := [(3, .int (x3 + 1)), (4, .int (5 * x3)), (0, .ref a), (2, .int x2)]) h dX0_street_169 rfl (kinc_1 _) (hL 3 (fle rfl)) rfl ?_
        refine g_goto (tgt := 86) h dX0_street_172 rfl ?_
        exact G.lsub [2, 3, 0] rfl (ih _ _ _ _ _ _ _ _ hf k0)
set_option maxHeartbeats 4000000 in
set_option maxRecDepth 100000 in
theorem ct_X0_street {l : Launch} {D : va_G} {E : Ety} {a a_kinds a_town a_tried a_fell a_tape a_read a_undos a_kept a_keptUndos a_sheets a_taken a_kinds_0 a_kinds_1 a_kinds_2 a_kinds_3 a_kinds_4 a_town_kind a_town_strength a_town_place a_town_length a_town_gives a_town_over a_town_under : Nat} {Us : List TV} {falls : Int32} {tears : Int32} {typed : Int32} {place : Int32} {isKept : Int32} {town_n : Int32} {town_holders : Int32} {town_cuts : Int32} {town_hour : Int32} {town_bears : Int32} {town_draw : Int32} {town_kind : Nat → Int32} {town_strength : Nat → Int32} {town_place : Nat → Int32} {town_length : Nat → Int32} {town_gives : Nat → Int32} {town_over : Nat → Int32} {town_under : Nat → Int32} {fell : Nat → Int32} {tape : Nat → Int32} {read : Nat → Int32} {r_ : Int32} {o_falls : Int32} {o_tears : Int32} {o_typed : Int32} {o_place : Int32} {o_town_n : Int32} {o_town_holders : Int32} {o_town_cuts : Int32} {o_town_hour : Int32} {o_town_bears : Int32} {o_town_kind : Nat → Int32} {o_town_strength : Nat → Int32} {o_town_place : Nat → Int32} {o_town_length : Nat → Int32} {o_town_gives : Nat → Int32} {o_town_over : Nat → Int32} {o_town_under : Nat → Int32} {o_fell : Nat → Int32} {o_read : Nat → Int32} {o_Us : List TV} (hfl : l.flags = flags0) {F : va_W} (hdq : DQ E a a_undos Us F) (hf : f_X0_street Us falls tears typed town_n town_holders town_cuts town_hour town_bears town_kind town_strength town_place town_length town_gives town_over town_under fell tape read = some (r_, o_falls, o_tears, o_typed, o_place, o_town_n, o_town_holders, o_town_cuts, o_town_hour, o_town_bears, o_town_kind, o_town_strength, o_town_place, o_town_length, o_town_gives, o_town_over, o_town_under, o_fell, o_read, o_Us)) : CtW l yX0_street cX0_street 6 (some .int) [(5, 186, 193, 170), (5, 186, 209, 0), (193, 202, 209, 0), (209, 211, 209, 0)] 8 189 1 7 D E [.ref a] ([(a, .inr (0, [.ref a_kinds, .ref a_town, .ref a_tried, .ref a_fell, .int falls, .int tears, .ref a_tape, .int typed, .int place, .ref a_read, .ref a_undos, .ref a_kept, .ref a_keptUndos, .int isKept, .ref a_sheets, .ref a_taken])), (a_kinds, .inl (E 5, 5, .inr (.inr (.inr (.inr (kq a_kinds_0 a_kinds_1 a_kinds_2 a_kinds_3 a_kinds_4)))))), (a_kinds_0, .inr (1, [])), (a_kinds_1, .inr (2, [])), (a_kinds_2, .inr (3, [])), (a_kinds_3, .inr (4, [])), (a_kinds_4, .inr (5, [])), (a_town, .inr (6, [.ref a_town_kind, .ref a_town_strength, .ref a_town_place, .ref a_town_length, .ref a_town_gives, .ref a_town_over, .ref a_town_under, .int town_n, .int town_holders, .int town_cuts, .int town_hour, .int town_bears, .int town_draw, .ref a])), (a_town_kind, .inl (E 0, 8, .inl town_kind)), (a_town_strength, .inl (E 0, 8, .inl town_strength)), (a_town_place, .inl (E 0, 8, .inl town_place)), (a_town_length, .inl (E 0, 8, .inl town_length)), (a_town_gives, .inl (E 0, 8, .inl town_gives)), (a_town_over, .inl (E 1, 8, .inl town_over)), (a_town_under, .inl (E 1, 8, .inl town_under)), (a_fell, .inl (E 1, 8, .inl fell)), (a_tape, .inl (E 0, 90, .inl tape)), (a_read, .inl (E 1, 40, .inl read))] ++ F) (PD (some (.int r_)) [(a, .inr (0, [.ref a_kinds, .ref a_town, .ref a_tried, .ref a_fell, .int o_falls, .int o_tears, .ref a_tape, .int o_typed, .int o_place, .ref a_read, .ref a_undos, .ref a_kept, .ref a_keptUndos, .int isKept, .ref a_sheets, .ref a_taken])), (a_kinds, .inl (E 5, 5, .inr (.inr (.inr (.inr (kq a_kinds_0 a_kinds_1 a_kinds_2 a_kinds_3 a_kinds_4)))))), (a_kinds_0, .inr (1, [])), (a_kinds_1, .inr (2, [])), (a_kinds_2, .inr (3, [])), (a_kinds_3, .inr (4, [])), (a_kinds_4, .inr (5, [])), (a_town, .inr (6, [.ref a_town_kind, .ref a_town_strength, .ref a_town_place, .ref a_town_length, .ref a_town_gives, .ref a_town_over, .ref a_town_under, .int o_town_n, .int o_town_holders, .int o_town_cuts, .int o_town_hour, .int o_town_bears, .int town_draw, .ref a])), (a_town_kind, .inl (E 0, 8, .inl o_town_kind)), (a_town_strength, .inl (E 0, 8, .inl o_town_strength)), (a_town_place, .inl (E 0, 8, .inl o_town_place)), (a_town_length, .inl (E 0, 8, .inl o_town_length)), (a_town_gives, .inl (E 0, 8, .inl o_town_gives)), (a_town_over, .inl (E 1, 8, .inl o_town_over)), (a_town_under, .inl (E 1, 8, .inl o_town_under)), (a_fell, .inl (E 1, 8, .inl o_fell)), (a_tape, .inl (E 0, 90, .inl tape)), (a_read, .inl (E 1, 40, .inl o_read))] (DQ E a a_undos o_Us)) := by
  refine ct_ofW (own := RX0) (F := F) (ws := [(a, .inr (0, [.ref a_kinds, .ref a_town, .ref a_tried, .ref a_fell, .int falls, .int tears, .ref a_tape, .int typed, .int place, .ref a_read, .ref a_undos, .ref a_kept, .ref a_keptUndos, .int isKept, .ref a_sheets, .ref a_taken])), (a_kinds, .inl (E 5, 5, .inr (.inr (.inr (.inr (kq a_kinds_0 a_kinds_1 a_kinds_2 a_kinds_3 a_kinds_4)))))), (a_kinds_0, .inr (1, [])), (a_kinds_1, .inr (2, [])), (a_kinds_2, .inr (3, [])), (a_kinds_3, .inr (4, [])), (a_kinds_4, .inr (5, [])), (a_town, .inr (6, [.ref a_town_kind, .ref a_town_strength, .ref a_town_place, .ref a_town_length, .ref a_town_gives, .ref a_town_over, .ref a_town_under, .int town_n, .int town_holders, .int town_cuts, .int town_hour, .int town_bears, .int town_draw, .ref a])), (a_town_kind, .inl (E 0, 8, .inl town_kind)), (a_town_strength, .inl (E 0, 8, .inl town_strength)), (a_town_place, .inl (E 0, 8, .inl town_place)), (a_town_length, .inl (E 0, 8, .inl town_length)), (a_town_gives, .inl (E 0, 8, .inl town_gives)), (a_town_over, .inl (E 1, 8, .inl town_over)), (a_town_under, .inl (E 1, 8, .inl town_under)), (a_fell, .inl (E 1, 8, .inl fell)), (a_tape, .inl (E 0, 90, .inl tape)), (a_read, .inl (E 1, 40, .inl read))]) rfl (by decide) rfl (fle rfl) rfl ?_
  intro X hl hD hE hnL hXF h hR hF htb
  subst hl; subst hD; subst hE
  have hL : ∀ i, i < 6 → i < X.nL := fun i hi => by rw [hnL]; exact hi
  refine G.toF hXF ?_
  unfold f_X0_street at hf
  refine g_aload_n (h.wF _) 0 dX0_street_0 rfl rfl ?_
  refine g_iconst (v := 0) (h.wF _) dX0_street_1 kiconst_0 ?_
  refine g_put (ci := 0) (ty := tyX0 8) (ws' := [(a, .inr (0, [.ref a_kinds, .ref a_town, .ref a_tried, .ref a_fell, .int falls, .int tears, .ref a_tape, .int typed, .int 0, .ref a_read, .ref a_undos, .ref a_kept, .ref a_keptUndos, .int isKept, .ref a_sheets, .ref a_taken])), (a_kinds, .inl (X.E 5, 5, .inr (.inr (.inr (.inr (kq a_kinds_0 a_kinds_1 a_kinds_2 a_kinds_3 a_kinds_4)))))), (a_kinds_0, .inr (1, [])), (a_kinds_1, .inr (2, [])), (a_kinds_2, .inr (3, [])), (a_kinds_3, .inr (4, [])), (a_kinds_4, .inr (5, [])), (a_town, .inr (6, [.ref a_town_kind, .ref a_town_strength, .ref a_town_place, .ref a_town_length, .ref a_town_gives, .ref a_town_over, .ref a_town_under, .int town_n, .int town_holders, .int town_cuts, .int town_hour, .int town_bears, .int town_draw, .ref a])), (a_town_kind, .inl (X.E 0, 8, .inl town_kind)), (a_town_strength, .inl (X.E 0, 8, .inl town_strength)), (a_town_place, .inl (X.E 0, 8, .inl town_place)), (a_town_length, .inl (X.E 0, 8, .inl town_length)), (a_town_gives, .inl (X.E 0, 8, .inl town_gives)), (a_town_over, .inl (X.E 1, 8, .inl town_over)), (a_town_under, .inl (X.E 1, 8, .inl town_under)), (a_fell, .inl (X.E 1, 8, .inl fell)), (a_tape, .inl (X.E 0, 90, .inl tape)), (a_read, .inl (X.E 1, 40, .inl read))]) (h.wF _) in_X0 tyX0 tyX0_ok nmX0 0 8 rfl rfl (fle rfl) ⟨rfl, rfl⟩ q1119 rfl rfl rfl (fle rfl) rfl dX0_street_2 ?_
  refine g_aload_n (h.wF _) 0 dX0_street_5 rfl rfl ?_
  refine g_iconst (v := 1) (h.wF _) dX0_street_6 kiconst_1 ?_
  refine g_bipush (v := 60) (h.wF _) dX0_street_7 kbipush_60 ?_
  refine ox_at hf (fun z hv hf => ?_) (fun z hv hf => ?_)
  · obtain ⟨r_1, place_2, hz, hf⟩ := ob2 hf
    replace hv := hv.trans hz
    clear hz
    refine g_callV (ci := 0) (q0 := 0) (n := 2) (As := [.int 1, .int 60]) (st := []) (wr := [(a_kinds, .inl (X.E 5, 5, .inr (.inr (.inr (.inr (kq a_kinds_0 a_kinds_1 a_kinds_2 a_kinds_3 a_kinds_4)))))), (a_kinds_0, .inr (1, [])), (a_kinds_1, .inr (2, [])), (a_kinds_2, .inr (3, [])), (a_kinds_3, .inr (4, [])), (a_kinds_4, .inr (5, [])), (a_town, .inr (6, [.ref a_town_kind, .ref a_town_strength, .ref a_town_place, .ref a_town_length, .ref a_town_gives, .ref a_town_over, .ref a_town_under, .int town_n, .int town_holders, .int town_cuts, .int town_hour, .int town_bears, .int town_draw, .ref a])), (a_town_kind, .inl (X.E 0, 8, .inl town_kind)), (a_town_strength, .inl (X.E 0, 8, .inl town_strength)), (a_town_place, .inl (X.E 0, 8, .inl town_place)), (a_town_length, .inl (X.E 0, 8, .inl town_length)), (a_town_gives, .inl (X.E 0, 8, .inl town_gives)), (a_town_over, .inl (X.E 1, 8, .inl town_over)), (a_town_under, .inl (X.E 1, 8, .inl town_under)), (a_fell, .inl (X.E 1, 8, .inl fell)), (a_read, .inl (X.E 1, 40, .inl read))]) (isC := [0, 16]) (isR := [1, 2, 3, 4, 5, 6, 7, 8, 9, 10, 11, 12, 13, 14, 15, 17]) (h.wF _) (hR.wF _) (ct_X0_number (a := a) (a_kinds := a_kinds) (a_town := a_town) (a_tried := a_tried) (a_fell := a_fell) (a_tape := a_tape) (a_read := a_read) (a_undos := a_undos) (a_kept := a_kept) (a_keptUndos := a_keptUndos) (a_sheets := a_sheets) (a_taken := a_taken) (x1 := 1) (x2 := 60) (falls := falls) (tears := tears) (typed := typed) (place := 0) (isKept := isKept) (tape := tape) hv) rfl rfl (lw_V q334 q336 qs8 q70 q337) (by decide +kernel) rfl ⟨rfl, rfl, rfl, rfl, by decide⟩ ⟨fle rfl, fle rfl, fle rfl, fle rfl, fle rfl⟩ rfl dX0_street_9 (pin (perm := [16, 0, 1, 2, 3, 4, 5, 6, 7, 8, 9, 10, 11, 12, 13, 14, 17, 15]) (ws' := [(a, .inr (0, [.ref a_kinds, .ref a_town, .ref a_tried, .ref a_fell, .int falls, .int tears, .ref a_tape, .int typed, .int place_2, .ref a_read, .ref a_undos, .ref a_kept, .ref a_keptUndos, .int isKept, .ref a_sheets, .ref a_taken])), (a_kinds, .inl (X.E 5, 5, .inr (.inr (.inr (.inr (kq a_kinds_0 a_kinds_1 a_kinds_2 a_kinds_3 a_kinds_4)))))), (a_kinds_0, .inr (1, [])), (a_kinds_1, .inr (2, [])), (a_kinds_2, .inr (3, [])), (a_kinds_3, .inr (4, [])), (a_kinds_4, .inr (5, [])), (a_town, .inr (6, [.ref a_town_kind, .ref a_town_strength, .ref a_town_place, .ref a_town_length, .ref a_town_gives, .ref a_town_over, .ref a_town_under, .int town_n, .int town_holders, .int town_cuts, .int town_hour, .int town_bears, .int town_draw, .ref a])), (a_town_kind, .inl (X.E 0, 8, .inl town_kind)), (a_town_strength, .inl (X.E 0, 8, .inl town_strength)), (a_town_place, .inl (X.E 0, 8, .inl town_place)), (a_town_length, .inl (X.E 0, 8, .inl town_length)), (a_town_gives, .inl (X.E 0, 8, .inl town_gives)), (a_town_over, .inl (X.E 1, 8, .inl town_over)), (a_town_under, .inl (X.E 1, 8, .inl town_under)), (a_fell, .inl (X.E 1, 8, .inl fell)), (a_tape, .inl (X.E 0, 90, .inl tape)), (a_read, .inl (X.E 1, 40, .inl read))]) (stk := [.int r_1]) rfl rfl rfl ?_)
    clear hv
    refine g_istore_n (lv' := [(1, .int r_1), (0, .ref a)]) (h.wF _) dX0_street_12 rfl (hL 1 (fle rfl)) rfl ?_
    refine g_aload_n (h.wF _) 1 dX0_street_13 rfl rfl ?_
    refine g_aload_n (h.wF _) 1 dX0_street_14 rfl rfl ?_
    obtain ⟨r_6, place_7, hv, hf⟩ := ob2 hf
    refine g_callV (ci := 0) (q0 := 0) (n := 0) (As := []) (st := [.ref a]) (wr := [(a_kinds, .inl (X.E 5, 5, .inr (.inr (.inr (.inr (kq a_kinds_0 a_kinds_1 a_kinds_2 a_kinds_3 a_kinds_4)))))), (a_kinds_0, .inr (1, [])), (a_kinds_1, .inr (2, [])), (a_kinds_2, .inr (3, [])), (a_kinds_3, .inr (4, [])), (a_kinds_4, .inr (5, [])), (a_town, .inr (6, [.ref a_town_kind, .ref a_town_strength, .ref a_town_place, .ref a_town_length, .ref a_town_gives, .ref a_town_over, .ref a_town_under, .int town_n, .int town_holders, .int town_cuts, .int town_hour, .int town_bears, .int town_draw, .ref a])), (a_town_kind, .inl (X.E 0, 8, .inl town_kind)), (a_town_strength, .inl (X.E 0, 8, .inl town_strength)), (a_town_place, .inl (X.E 0, 8, .inl town_place)), (a_town_length, .inl (X.E 0, 8, .inl town_length)), (a_town_gives, .inl (X.E 0, 8, .inl town_gives)), (a_town_over, .inl (X.E 1, 8, .inl town_over)), (a_town_under, .inl (X.E 1, 8, .inl town_under)), (a_fell, .inl (X.E 1, 8, .inl fell)), (a_read, .inl (X.E 1, 40, .inl read))]) (isC := [0, 16]) (isR := [1, 2, 3, 4, 5, 6, 7, 8, 9, 10, 11, 12, 13, 14, 15, 17]) (h.wF _) (hR.wF _) (ct_X0_here (a := a) (a_kinds := a_kinds) (a_town := a_town) (a_tried := a_tried) (a_fell := a_fell) (a_tape := a_tape) (a_read := a_read) (a_undos := a_undos) (a_kept := a_kept) (a_keptUndos := a_keptUndos) (a_sheets := a_sheets) (a_taken := a_taken) (falls := falls) (tears := tears) (typed := typed) (place := place_2) (isKept := isKept) (tape := tape) hv) rfl rfl (lw_V q338 q340 qs9 q70 q341) (by decide +kernel) rfl ⟨rfl, rfl, rfl, rfl, by decide⟩ ⟨fle rfl, fle rfl, fle rfl, fle rfl, fle rfl⟩ rfl dX0_street_15 (pin (perm := [16, 0, 1, 2, 3, 4, 5, 6, 7, 8, 9, 10, 11, 12, 13, 14, 17, 15]) (ws' := [(a, .inr (0, [.ref a_kinds, .ref a_town, .ref a_tried, .ref a_fell, .int falls, .int tears, .ref a_tape, .int typed, .int place_7, .ref a_read, .ref a_undos, .ref a_kept, .ref a_keptUndos, .int isKept, .ref a_sheets, .ref a_taken])), (a_kinds, .inl (X.E 5, 5, .inr (.inr (.inr (.inr (kq a_kinds_0 a_kinds_1 a_kinds_2 a_kinds_3 a_kinds_4)))))), (a_kinds_0, .inr (1, [])), (a_kinds_1, .inr (2, [])), (a_kinds_2, .inr (3, [])), (a_kinds_3, .inr (4, [])), (a_kinds_4, .inr (5, [])), (a_town, .inr (6, [.ref a_town_kind, .ref a_town_strength, .ref a_town_place, .ref a_town_length, .ref a_town_gives, .ref a_town_over, .ref a_town_under, .int town_n, .int town_holders, .int town_cuts, .int town_hour, .int town_bears, .int town_draw, .ref a])), (a_town_kind, .inl (X.E 0, 8, .inl town_kind)), (a_town_strength, .inl (X.E 0, 8, .inl town_strength)), (a_town_place, .inl (X.E 0, 8, .inl town_place)), (a_town_length, .inl (X.E 0, 8, .inl town_length)), (a_town_gives, .inl (X.E 0, 8, .inl town_gives)), (a_town_over, .inl (X.E 1, 8, .inl town_over)), (a_town_under, .inl (X.E 1, 8, .inl town_under)), (a_fell, .inl (X.E 1, 8, .inl fell)), (a_tape, .inl (X.E 0, 90, .inl tape)), (a_read, .inl (X.E 1, 40, .inl read))]) (stk := [.int r_6, .ref a]) rfl rfl rfl ?_)
    clear hv
    refine g_bipush (v := 58) (h.wF _) dX0_street_18 kbipush_58 ?_
    obtain ⟨z_9, hw, hf⟩ := ob1 hf
    have K20 : ∀ F : va_W, DQ X.E a a_undos Us F → G (X.wF F) [(a, .inr (0, [.ref a_kinds, .ref a_town, .ref a_tried, .ref a_fell, .int falls, .int tears, .ref a_tape, .int typed, .int place_7, .ref a_read, .ref a_undos, .ref a_kept, .ref a_keptUndos, .int isKept, .ref a_sheets, .ref a_taken])), (a_kinds, .inl (X.E 5, 5, .inr (.inr (.inr (.inr (kq a_kinds_0 a_kinds_1 a_kinds_2 a_kinds_3 a_kinds_4)))))), (a_kinds_0, .inr (1, [])), (a_kinds_1, .inr (2, [])), (a_kinds_2, .inr (3, [])), (a_kinds_3, .inr (4, [])), (a_kinds_4, .inr (5, [])), (a_town, .inr (6, [.ref a_town_kind, .ref a_town_strength, .ref a_town_place, .ref a_town_length, .ref a_town_gives, .ref a_town_over, .ref a_town_under, .int town_n, .int town_holders, .int town_cuts, .int town_hour, .int town_bears, .int town_draw, .ref a])), (a_town_kind, .inl (X.E 0, 8, .inl town_kind)), (a_town_strength, .inl (X.E 0, 8, .inl town_strength)), (a_town_place, .inl (X.E 0, 8, .inl town_place)), (a_town_length, .inl (X.E 0, 8, .inl town_length)), (a_town_gives, .inl (X.E 0, 8, .inl town_gives)), (a_town_over, .inl (X.E 1, 8, .inl town_over)), (a_town_under, .inl (X.E 1, 8, .inl town_under)), (a_fell, .inl (X.E 1, 8, .inl fell)), (a_tape, .inl (X.E 0, 90, .inl tape)), (a_read, .inl (X.E 1, 40, .inl read))] [(0, .ref a), (1, .int r_1)] 0 0 28 [.int z_9, .ref a] := by
      clear hw
      intro F hqk
      refine ox_at hf (fun z hv hf => ?_) (fun z hv hf => ?_)
      · obtain ⟨place_10, hz, hf⟩ := ob1 hf
        replace hv := hv.trans hz
        clear hz
        refine g_callV (ci := 0) (q0 := 0) (n := 1) (As := [.int z_9]) (st := []) (wr := [(a_kinds, .inl (X.E 5, 5, .inr (.inr (.inr (.inr (kq a_kinds_0 a_kinds_1 a_kinds_2 a_kinds_3 a_kinds_4)))))), (a_kinds_0, .inr (1, [])), (a_kinds_1, .inr (2, [])), (a_kinds_2, .inr (3, [])), (a_kinds_3, .inr (4, [])), (a_kinds_4, .inr (5, [])), (a_town, .inr (6, [.ref a_town_kind, .ref a_town_strength, .ref a_town_place, .ref a_town_length, .ref a_town_gives, .ref a_town_over, .ref a_town_under, .int town_n, .int town_holders, .int town_cuts, .int town_hour, .int town_bears, .int town_draw, .ref a])), (a_town_kind, .inl (X.E 0, 8, .inl town_kind)), (a_town_strength, .inl (X.E 0, 8, .inl town_strength)), (a_town_place, .inl (X.E 0, 8, .inl town_place)), (a_town_length, .inl (X.E 0, 8, .inl town_length)), (a_town_gives, .inl (X.E 0, 8, .inl town_gives)), (a_town_over, .inl (X.E 1, 8, .inl town_over)), (a_town_under, .inl (X.E 1, 8, .inl town_under)), (a_fell, .inl (X.E 1, 8, .inl fell)), (a_tape, .inl (X.E 0, 90, .inl tape)), (a_read, .inl (X.E 1, 40, .inl read))]) (isC := [0]) (isR := [1, 2, 3, 4, 5, 6, 7, 8, 9, 10, 11, 12, 13, 14, 15, 16, 17]) (h.wF _) (hR.wF _) (ct_X0_must (a := a) (a_kinds := a_kinds) (a_town := a_town) (a_tried := a_tried) (a_fell := a_fell) (a_tape := a_tape) (a_read := a_read) (a_undos := a_undos) (a_kept := a_kept) (a_keptUndos := a_keptUndos) (a_sheets := a_sheets) (a_taken := a_taken) (x1 := z_9) (falls := falls) (tears := tears) (typed := typed) (place := place_7) (isKept := isKept) hv) rfl rfl (lw_V q422 q424 qs12 q70 q425) (by decide +kernel) rfl ⟨rfl, rfl, rfl, rfl, by decide⟩ ⟨fle rfl, fle rfl, fle rfl, fle rfl, fle rfl⟩ rfl dX0_street_28 (pin (perm := [17, 0, 1, 2, 3, 4, 5, 6, 7, 8, 9, 10, 11, 12, 13, 14, 15, 16]) (ws' := [(a, .inr (0, [.ref a_kinds, .ref a_town, .ref a_tried, .ref a_fell, .int falls, .int tears, .ref a_tape, .int typed, .int place_10, .ref a_read, .ref a_undos, .ref a_kept, .ref a_keptUndos, .int isKept, .ref a_sheets, .ref a_taken])), (a_kinds, .inl (X.E 5, 5, .inr (.inr (.inr (.inr (kq a_kinds_0 a_kinds_1 a_kinds_2 a_kinds_3 a_kinds_4)))))), (a_kinds_0, .inr (1, [])), (a_kinds_1, .inr (2, [])), (a_kinds_2, .inr (3, [])), (a_kinds_3, .inr (4, [])), (a_kinds_4, .inr (5, [])), (a_town, .inr (6, [.ref a_town_kind, .ref a_town_strength, .ref a_town_place, .ref a_town_length, .ref a_town_gives, .ref a_town_over, .ref a_town_under, .int town_n, .int town_holders, .int town_cuts, .int town_hour, .int town_bears, .int town_draw, .ref a])), (a_town_kind, .inl (X.E 0, 8, .inl town_kind)), (a_town_strength, .inl (X.E 0, 8, .inl town_strength)), (a_town_place, .inl (X.E 0, 8, .inl town_place)), (a_town_length, .inl (X.E 0, 8, .inl town_length)), (a_town_gives, .inl (X.E 0, 8, .inl town_gives)), (a_town_over, .inl (X.E 1, 8, .inl town_over)), (a_town_under, .inl (X.E 1, 8, .inl town_under)), (a_fell, .inl (X.E 1, 8, .inl fell)), (a_tape, .inl (X.E 0, 90, .inl tape)), (a_read, .inl (X.E 1, 40, .inl read))]) (stk := []) rfl rfl rfl ?_)
        clear hv
        refine g_aload_n (h.wF _) 0 dX0_street_31 rfl rfl ?_
        refine ox_at hf (fun z hv hf => ?_) (fun z hv hf => ?_)
        · obtain ⟨r_14, place_15, read_16, hz, hf⟩ := ob3 hf
          replace hv := hv.trans hz
          clear hz
          refine g_callV (ci := 0) (q0 := 0) (n := 0) (As := []) (st := []) (wr := [(a_kinds, .inl (X.E 5, 5, .inr (.inr (.inr (.inr (kq a_kinds_0 a_kinds_1 a_kinds_2 a_kinds_3 a_kinds_4)))))), (a_kinds_0, .inr (1, [])), (a_kinds_1, .inr (2, [])), (a_kinds_2, .inr (3, [])), (a_kinds_3, .inr (4, [])), (a_kinds_4, .inr (5, [])), (a_town, .inr (6, [.ref a_town_kind, .ref a_town_strength, .ref a_town_place, .ref a_town_length, .ref a_town_gives, .ref a_town_over, .ref a_town_under, .int town_n, .int town_holders, .int town_cuts, .int town_hour, .int town_bears, .int town_draw, .ref a])), (a_town_kind, .inl (X.E 0, 8, .inl town_kind)), (a_town_strength, .inl (X.E 0, 8, .inl town_strength)), (a_town_place, .inl (X.E 0, 8, .inl town_place)), (a_town_length, .inl (X.E 0, 8, .inl town_length)), (a_town_gives, .inl (X.E 0, 8, .inl town_gives)), (a_town_over, .inl (X.E 1, 8, .inl town_over)), (a_town_under, .inl (X.E 1, 8, .inl town_under)), (a_fell, .inl (X.E 1, 8, .inl fell))]) (isC := [0, 16, 17]) (isR := [1, 2, 3, 4, 5, 6, 7, 8, 9, 10, 11, 12, 13, 14, 15]) (h.wF _) (hR.wF _) (ct_X0_readsPeople (a := a) (a_kinds := a_kinds) (a_town := a_town) (a_tried := a_tried) (a_fell := a_fell) (a_tape := a_tape) (a_read := a_read) (a_undos := a_undos) (a_kept := a_kept) (a_keptUndos := a_keptUndos) (a_sheets := a_sheets) (a_taken := a_taken) (falls := falls) (tears := tears) (typed := typed) (place := place_10) (isKept := isKept) (tape := tape) (read := read) hv) rfl rfl (lw_V q426 q428 qs13 q70 q429) (by decide +kernel) rfl ⟨rfl, rfl, rfl, rfl, by decide⟩ ⟨fle rfl, fle rfl, fle rfl, fle rfl, fle rfl⟩ rfl dX0_street_32 (pin (perm := [15, 0, 1, 2, 3, 4, 5, 6, 7, 8, 9, 10, 11, 12, 13, 14, 16, 17]) (ws' := [(a, .inr (0, [.ref a_kinds, .ref a_town, .ref a_tried, .ref a_fell, .int falls, .int tears, .ref a_tape, .int typed, .int place_15, .ref a_read, .ref a_undos, .ref a_kept, .ref a_keptUndos, .int isKept, .ref a_sheets, .ref a_taken])), (a_kinds, .inl (X.E 5, 5, .inr (.inr (.inr (.inr (kq a_kinds_0 a_kinds_1 a_kinds_2 a_kinds_3 a_kinds_4)))))), (a_kinds_0, .inr (1, [])), (a_kinds_1, .inr (2, [])), (a_kinds_2, .inr (3, [])), (a_kinds_3, .inr (4, [])), (a_kinds_4, .inr (5, [])), (a_town, .inr (6, [.ref a_town_kind, .ref a_town_strength, .ref a_town_place, .ref a_town_length, .ref a_town_gives, .ref a_town_over, .ref a_town_under, .int town_n, .int town_holders, .int town_cuts, .int town_hour, .int town_bears, .int town_draw, .ref a])), (a_town_kind, .inl (X.E 0, 8, .inl town_kind)), (a_town_strength, .inl (X.E 0, 8, .inl town_strength)), (a_town_place, .inl (X.E 0, 8, .inl town_place)), (a_town_length, .inl (X.E 0, 8, .inl town_length)), (a_town_gives, .inl (X.E 0, 8, .inl town_gives)), (a_town_over, .inl (X.E 1, 8, .inl town_over)), (a_town_under, .inl (X.E 1, 8, .inl town_under)), (a_fell, .inl (X.E 1, 8, .inl fell)), (a_tape, .inl (X.E 0, 90, .inl tape)), (a_read, .inl (X.E 1, 40, .inl read_16))]) (stk := [.int r_14]) rfl rfl rfl ?_)
          clear hv
          refine g_istore_n (lv' := [(2, .int r_14), (0, .ref a), (1, .int r_1)]) (h.wF _) dX0_street_35 rfl (hL 2 (fle rfl)) rfl ?_
          refine g_aload_n (h.wF _) 1 dX0_street_36 rfl rfl ?_
          refine g_get (ci := 0) (v := .ref a_town) (h.wF _) in_X0 0 1 rfl rfl (fle rfl) rfl q1112 rfl dX0_street_37 ?_
          refine g_iconst (v := 0) (h.wF _) dX0_street_40 kiconst_0 ?_
          refine g_putN (ci := 6) (ty := tyX6 7) (ws' := [(a, .inr (0, [.ref a_kinds, .ref a_town, .ref a_tried, .ref a_fell, .int falls, .int tears, .ref a_tape, .int typed, .int place_15, .ref a_read, .ref a_undos, .ref a_kept, .ref a_keptUndos, .int isKept, .ref a_sheets, .ref a_taken])), (a_kinds, .inl (X.E 5, 5, .inr (.inr (.inr (.inr (kq a_kinds_0 a_kinds_1 a_kinds_2 a_kinds_3 a_kinds_4)))))), (a_kinds_0, .inr (1, [])), (a_kinds_1, .inr (2, [])), (a_kinds_2, .inr (3, [])), (a_kinds_3, .inr (4, [])), (a_kinds_4, .inr (5, [])), (a_town, .inr (6, [.ref a_town_kind, .ref a_town_strength, .ref a_town_place, .ref a_town_length, .ref a_town_gives, .ref a_town_over, .ref a_town_under, .int 0, .int town_holders, .int town_cuts, .int town_hour, .int town_bears, .int town_draw, .ref a])), (a_town_kind, .inl (X.E 0, 8, .inl town_kind)), (a_town_strength, .inl (X.E 0, 8, .inl town_strength)), (a_town_place, .inl (X.E 0, 8, .inl town_place)), (a_town_length, .inl (X.E 0, 8, .inl town_length)), (a_town_gives, .inl (X.E 0, 8, .inl town_gives)), (a_town_over, .inl (X.E 1, 8, .inl town_over)), (a_town_under, .inl (X.E 1, 8, .inl town_under)), (a_fell, .inl (X.E 1, 8, .inl fell)), (a_tape, .inl (X.E 0, 90, .inl tape)), (a_read, .inl (X.E 1, 40, .inl read_16))]) (h.wF _) in_X6 tyX6 tyX6_ok nmX6 7 7 rfl rfl (fle rfl) ⟨rfl, rfl⟩ q564 rfl rfl rfl (fle rfl) rfl dX0_street_41 ?_
          refine g_aload_n (h.wF _) 1 dX0_street_44 rfl rfl ?_
          refine g_get (ci := 0) (v := .ref a_town) (h.wF _) in_X0 0 1 rfl rfl (fle rfl) rfl q1112 rfl dX0_street_45 ?_
          refine g_iconst (v := 0) (h.wF _) dX0_street_48 kiconst_0 ?_
          refine g_putN (ci := 6) (ty := tyX6 8) (ws' := [(a, .inr (0, [.ref a_kinds, .ref a_town, .ref a_tried, .ref a_fell, .int falls, .int tears, .ref a_tape, .int typed, .int place_15, .ref a_read, .ref a_undos, .ref a_kept, .ref a_keptUndos, .int isKept, .ref a_sheets, .ref a_taken])), (a_kinds, .inl (X.E 5, 5, .inr (.inr (.inr (.inr (kq a_kinds_0 a_kinds_1 a_kinds_2 a_kinds_3 a_kinds_4)))))), (a_kinds_0, .inr (1, [])), (a_kinds_1, .inr (2, [])), (a_kinds_2, .inr (3, [])), (a_kinds_3, .inr (4, [])), (a_kinds_4, .inr (5, [])), (a_town, .inr (6, [.ref a_town_kind, .ref a_town_strength, .ref a_town_place, .ref a_town_length, .ref a_town_gives, .ref a_town_over, .ref a_town_under, .int 0, .int 0, .int town_cuts, .int town_hour, .int town_bears, .int town_draw, .ref a])), (a_town_kind, .inl (X.E 0, 8, .inl town_kind)), (a_town_strength, .inl (X.E 0, 8, .inl town_strength)), (a_town_place, .inl (X.E 0, 8, .inl town_place)), (a_town_length, .inl (X.E 0, 8, .inl town_length)), (a_town_gives, .inl (X.E 0, 8, .inl town_gives)), (a_town_over, .inl (X.E 1, 8, .inl town_over)), (a_town_under, .inl (X.E 1, 8, .inl town_under)), (a_fell, .inl (X.E 1, 8, .inl fell)), (a_tape, .inl (X.E 0, 90, .inl tape)), (a_read, .inl (X.E 1, 40, .inl read_16))]) (h.wF _) in_X6 tyX6 tyX6_ok nmX6 7 8 rfl rfl (fle rfl) ⟨rfl, rfl⟩ q566 rfl rfl rfl (fle rfl) rfl dX0_street_49 ?_
          refine g_aload_n (h.wF _) 1 dX0_street_52 rfl rfl ?_
          refine g_get (ci := 0) (v := .ref a_town) (h.wF _) in_X0 0 1 rfl rfl (fle rfl) rfl q1112 rfl dX0_street_53 ?_
          refine g_iconst (v := 0) (h.wF _) dX0_street_56 kiconst_0 ?_
          refine g_putN (ci := 6) (ty := tyX6 9) (ws' := [(a, .inr (0, [.ref a_kinds, .ref a_town, .ref a_tried, .ref a_fell, .int falls, .int tears, .ref a_tape, .int typed, .int place_15, .ref a_read, .ref a_undos, .ref a_kept, .ref a_keptUndos, .int isKept, .ref a_sheets, .ref a_taken])), (a_kinds, .inl (X.E 5, 5, .inr (.inr (.inr (.inr (kq a_kinds_0 a_kinds_1 a_kinds_2 a_kinds_3 a_kinds_4)))))), (a_kinds_0, .inr (1, [])), (a_kinds_1, .inr (2, [])), (a_kinds_2, .inr (3, [])), (a_kinds_3, .inr (4, [])), (a_kinds_4, .inr (5, [])), (a_town, .inr (6, [.ref a_town_kind, .ref a_town_strength, .ref a_town_place, .ref a_town_length, .ref a_town_gives, .ref a_town_over, .ref a_town_under, .int 0, .int 0, .int 0, .int town_hour, .int town_bears, .int town_draw, .ref a])), (a_town_kind, .inl (X.E 0, 8, .inl town_kind)), (a_town_strength, .inl (X.E 0, 8, .inl town_strength)), (a_town_place, .inl (X.E 0, 8, .inl town_place)), (a_town_length, .inl (X.E 0, 8, .inl town_length)), (a_town_gives, .inl (X.E 0, 8, .inl town_gives)), (a_town_over, .inl (X.E 1, 8, .inl town_over)), (a_town_under, .inl (X.E 1, 8, .inl town_under)), (a_fell, .inl (X.E 1, 8, .inl fell)), (a_tape, .inl (X.E 0, 90, .inl tape)), (a_read, .inl (X.E 1, 40, .inl read_16))]) (h.wF _) in_X6 tyX6 tyX6_ok nmX6 7 9 rfl rfl (fle rfl) ⟨rfl, rfl⟩ q568 rfl rfl rfl (fle rfl) rfl dX0_street_57 ?_
          refine g_aload_n (h.wF _) 1 dX0_street_60 rfl rfl ?_
          refine g_get (ci := 0) (v := .ref a_town) (h.wF _) in_X0 0 1 rfl rfl (fle rfl) rfl q1112 rfl dX0_street_61 ?_
          refine g_bipush (v := 8) (h.wF _) dX0_street_64 kbipush_8 ?_
          refine g_putN (ci := 6) (ty := tyX6 10) (ws' := [(a, .inr (0, [.ref a_kinds, .ref a_town, .ref a_tried, .ref a_fell, .int falls, .int tears, .ref a_tape, .int typed, .int place_15, .ref a_read, .ref a_undos, .ref a_kept, .ref a_keptUndos, .int isKept, .ref a_sheets, .ref a_taken])), (a_kinds, .inl (X.E 5, 5, .inr (.inr (.inr (.inr (kq a_kinds_0 a_kinds_1 a_kinds_2 a_kinds_3 a_kinds_4)))))), (a_kinds_0, .inr (1, [])), (a_kinds_1, .inr (2, [])), (a_kinds_2, .inr (3, [])), (a_kinds_3, .inr (4, [])), (a_kinds_4, .inr (5, [])), (a_town, .inr (6, [.ref a_town_kind, .ref a_town_strength, .ref a_town_place, .ref a_town_length, .ref a_town_gives, .ref a_town_over, .ref a_town_under, .int 0, .int 0, .int 0, .int 8, .int town_bears, .int town_draw, .ref a])), (a_town_kind, .inl (X.E 0, 8, .inl town_kind)), (a_town_strength, .inl (X.E 0, 8, .inl town_strength)), (a_town_place, .inl (X.E 0, 8, .inl town_place)), (a_town_length, .inl (X.E 0, 8, .inl town_length)), (a_town_gives, .inl (X.E 0, 8, .inl town_gives)), (a_town_over, .inl (X.E 1, 8, .inl town_over)), (a_town_under, .inl (X.E 1, 8, .inl town_under)), (a_fell, .inl (X.E 1, 8, .inl fell)), (a_tape, .inl (X.E 0, 90, .inl tape)), (a_read, .inl (X.E 1, 40, .inl read_16))]) (h.wF _) in_X6 tyX6 tyX6_ok nmX6 7 10 rfl rfl (fle rfl) ⟨rfl, rfl⟩ q570 rfl rfl rfl (fle rfl) rfl dX0_street_66 ?_
          refine g_aload_n (h.wF _) 1 dX0_street_69 rfl rfl ?_
          refine g_get (ci := 0) (v := .ref a_town) (h.wF _) in_X0 0 1 rfl rfl (fle rfl) rfl q1112 rfl dX0_street_70 ?_
          refine g_iload_n (h.wF _) 2 dX0_street_73 rfl rfl ?_
          refine g_putN (ci := 6) (ty := tyX6 11) (ws' := [(a, .inr (0, [.ref a_kinds, .ref a_town, .ref a_tried, .ref a_fell, .int falls, .int tears, .ref a_tape, .int typed, .int place_15, .ref a_read, .ref a_undos, .ref a_kept, .ref a_keptUndos, .int isKept, .ref a_sheets, .ref a_taken])), (a_kinds, .inl (X.E 5, 5, .inr (.inr (.inr (.inr (kq a_kinds_0 a_kinds_1 a_kinds_2 a_kinds_3 a_kinds_4)))))), (a_kinds_0, .inr (1, [])), (a_kinds_1, .inr (2, [])), (a_kinds_2, .inr (3, [])), (a_kinds_3, .inr (4, [])), (a_kinds_4, .inr (5, [])), (a_town, .inr (6, [.ref a_town_kind, .ref a_town_strength, .ref a_town_place, .ref a_town_length, .ref a_town_gives, .ref a_town_over, .ref a_town_under, .int 0, .int 0, .int 0, .int 8, .int r_1, .int town_draw, .ref a])), (a_town_kind, .inl (X.E 0, 8, .inl town_kind)), (a_town_strength, .inl (X.E 0, 8, .inl town_strength)), (a_town_place, .inl (X.E 0, 8, .inl town_place)), (a_town_length, .inl (X.E 0, 8, .inl town_length)), (a_town_gives, .inl (X.E 0, 8, .inl town_gives)), (a_town_over, .inl (X.E 1, 8, .inl town_over)), (a_town_under, .inl (X.E 1, 8, .inl town_under)), (a_fell, .inl (X.E 1, 8, .inl fell)), (a_tape, .inl (X.E 0, 90, .inl tape)), (a_read, .inl (X.E 1, 40, .inl read_16))]) (h.wF _) in_X6 tyX6 tyX6_ok nmX6 7 11 rfl rfl (fle rfl) ⟨rfl, rfl⟩ q572 rfl rfl rfl (fle rfl) rfl dX0_street_74 ?_
          refine g_aload_n (h.wF _) 1 dX0_street_77 rfl rfl ?_
          refine g_get (ci := 0) (v := .ref a_undos) (h.wF _) in_X0 0 10 rfl rfl (fle rfl) rfl q1121 rfl dX0_street_78 ?_
          obtain ⟨Us_21, hv, hf⟩ := ob1 hf
          refine g_callVD (ci := 11) (n := 0) (As := []) (st := []) (wr := [(a, .inr (0, [.ref a_kinds, .ref a_town, .ref a_tried, .ref a_fell, .int falls, .int tears, .ref a_tape, .int typed, .int place_15, .ref a_read, .ref a_undos, .ref a_kept, .ref a_keptUndos, .int isKept, .ref a_sheets, .ref a_taken])), (a_kinds, .inl (X.E 5, 5, .inr (.inr (.inr (.inr (kq a_kinds_0 a_kinds_1 a_kinds_2 a_kinds_3 a_kinds_4)))))), (a_kinds_0, .inr (1, [])), (a_kinds_1, .inr (2, [])), (a_kinds_2, .inr (3, [])), (a_kinds_3, .inr (4, [])), (a_kinds_4, .inr (5, [])), (a_town, .inr (6, [.ref a_town_kind, .ref a_town_strength, .ref a_town_place, .ref a_town_length, .ref a_town_gives, .ref a_town_over, .ref a_town_under, .int 0, .int 0, .int 0, .int 8, .int r_1, .int town_draw, .ref a])), (a_town_kind, .inl (X.E 0, 8, .inl town_kind)), (a_town_strength, .inl (X.E 0, 8, .inl town_strength)), (a_town_place, .inl (X.E 0, 8, .inl town_place)), (a_town_length, .inl (X.E 0, 8, .inl town_length)), (a_town_gives, .inl (X.E 0, 8, .inl town_gives)), (a_town_over, .inl (X.E 1, 8, .inl town_over)), (a_town_under, .inl (X.E 1, 8, .inl town_under)), (a_fell, .inl (X.E 1, 8, .inl fell)), (a_tape, .inl (X.E 0, 90, .inl tape)), (a_read, .inl (X.E 1, 40, .inl read_16))]) (isC := []) (isR := [0, 1, 2, 3, 4, 5, 6, 7, 8, 9, 10, 11, 12, 13, 14, 15, 16, 17]) (h.wF _) (hR.wF _) (List.Perm.refl _) (ct_dq_clear  hqk hv) rfl (DQ.recv _ hqk) (lw_V q123 q124 q125 q78 q126) (by decide +kernel) rfl ⟨rfl, rfl, rfl, rfl, by decide⟩ ⟨fle rfl, fle rfl, fle rfl, fle rfl, fle rfl⟩ rfl dX0_street_81 (fun F22 hq22 => G.sub (ws' := [(a, .inr (0, [.ref a_kinds, .ref a_town, .ref a_tried, .ref a_fell, .int falls, .int tears, .ref a_tape, .int typed, .int place_15, .ref a_read, .ref a_undos, .ref a_kept, .ref a_keptUndos, .int isKept, .ref a_sheets, .ref a_taken])), (a_kinds, .inl (X.E 5, 5, .inr (.inr (.inr (.inr (kq a_kinds_0 a_kinds_1 a_kinds_2 a_kinds_3 a_kinds_4)))))), (a_kinds_0, .inr (1, [])), (a_kinds_1, .inr (2, [])), (a_kinds_2, .inr (3, [])), (a_kinds_3, .inr (4, [])), (a_kinds_4, .inr (5, [])), (a_town, .inr (6, [.ref a_town_kind, .ref a_town_strength, .ref a_town_place, .ref a_town_length, .ref a_town_gives, .ref a_town_over, .ref a_town_under, .int 0, .int 0, .int 0, .int 8, .int r_1, .int town_draw, .ref a])), (a_town_kind, .inl (X.E 0, 8, .inl town_kind)), (a_town_strength, .inl (X.E 0, 8, .inl town_strength)), (a_town_place, .inl (X.E 0, 8, .inl town_place)), (a_town_length, .inl (X.E 0, 8, .inl town_length)), (a_town_gives, .inl (X.E 0, 8, .inl town_gives)), (a_town_over, .inl (X.E 1, 8, .inl town_over)), (a_town_under, .inl (X.E 1, 8, .inl town_under)), (a_fell, .inl (X.E 1, 8, .inl fell)), (a_tape, .inl (X.E 0, 90, .inl tape)), (a_read, .inl (X.E 1, 40, .inl read_16))]) [0, 1, 2, 3, 4, 5, 6, 7, 8, 9, 10, 11, 12, 13, 14, 15, 16, 17] rfl rfl ?_)
          clear hv
          refine g_iconst (v := 0) (h.wF _) dX0_street_84 kiconst_0 ?_
          refine g_istore_n (lv' := [(3, .int 0), (2, .int r_14), (0, .ref a), (1, .int r_1)]) (h.wF _) dX0_street_85 rfl (hL 3 (fle rfl)) rfl ?_
          refine G.lsub (lv' := [(0, .ref a), (2, .int r_14), (3, .int 0)]) [2, 1, 0] rfl ?_
          obtain ⟨town_n_39, town_holders_40, town_kind_41, town_strength_42, town_place_43, town_length_44, town_gives_45, hv, hf⟩ := ob7 hf
          refine w_X0_street_L86 (X := X.wF F22) (ce := 0) (sl := 0) (x2 := r_14) (falls := falls) (tears := tears) (typed := typed) (place := place_15) (isKept := isKept) (town_cuts := 0) (town_hour := 8) (town_bears := r_1) (town_draw := town_draw) (town_over := town_over) (town_under := town_under) (fell := fell) (tape := tape) (read := read_16) (Us := Us_21) (h.wF _) (hR.wF _) hL (fle rfl) (fle rfl) FU _ _ _ _ _ _ _ _ hv ?_
          · clear hv
            refine g_aload_n (h.wF _) 0 dX0_street_175 rfl rfl ?_
            refine g_aload_n (h.wF _) 0 dX0_street_176 rfl rfl ?_
            refine g_get (ci := 0) (v := .ref a_town) (h.wF _) in_X0 0 1 rfl rfl (fle rfl) rfl q1112 rfl dX0_street_177 ?_
            obtain ⟨r_46, falls_47, tears_48, fell_49, town_holders_50, town_cuts_51, town_over_52, town_under_53, hv, hf⟩ := ob8 hf
            refine g_callV (ci := 0) (q0 := 0) (n := 1) (As := [.ref a_town]) (st := []) (wr := [(a_tape, .inl (X.E 0, 90, .inl tape)), (a_read, .inl (X.E 1, 40, .inl read_16))]) (isC := [0, 1, 2, 3, 4, 5, 6, 15, 7, 8, 9, 10, 11, 12, 13, 14]) (isR := [16, 17]) (h.wF _) (hR.wF _) (ct_X0_settles (a := a) (a_t1 := a_town) (a_kinds := a_kinds) (a_town := a_town) (a_tried := a_tried) (a_fell := a_fell) (a_tape := a_tape) (a_read := a_read) (a_undos := a_undos) (a_kept := a_kept) (a_keptUndos := a_keptUndos) (a_sheets := a_sheets) (a_taken := a_taken) (a_kinds_0 := a_kinds_0) (a_kinds_1 := a_kinds_1) (a_kinds_2 := a_kinds_2) (a_kinds_3 := a_kinds_3) (a_kinds_4 := a_kinds_4) (a_t1_kind := a_town_kind) (a_t1_strength := a_town_strength) (a_t1_place := a_town_place) (a_t1_length := a_town_length) (a_t1_gives := a_town_gives) (a_t1_over := a_town_over) (a_t1_under := a_town_under) (falls := falls) (tears := tears) (typed := typed) (place := place_15) (isKept := isKept) (fell := fell) (t1_n := town_n_39) (t1_holders := town_holders_40) (t1_cuts := 0) (t1_hour := 8) (t1_bears := r_1) (t1_draw := town_draw) (t1_kind := town_kind_41) (t1_strength := town_strength_42) (t1_place := town_place_43) (t1_length := town_length_44) (t1_gives := town_gives_45) (t1_over := town_over) (t1_under := town_under) hv) rfl rfl (lw_V q130 q132 qs1 q70 q133) (by decide +kernel) rfl ⟨rfl, rfl, rfl, rfl, by decide⟩ ⟨fle rfl, fle rfl, fle rfl, fle rfl, fle rfl⟩ rfl dX0_street_180 (pin (perm := [2, 3, 4, 5, 6, 7, 8, 10, 11, 12, 13, 14, 15, 16, 17, 9, 0, 1]) (ws' := [(a, .inr (0, [.ref a_kinds, .ref a_town, .ref a_tried, .ref a_fell, .int falls_47, .int tears_48, .ref a_tape, .int typed, .int place_15, .ref a_read, .ref a_undos, .ref a_kept, .ref a_keptUndos, .int isKept, .ref a_sheets, .ref a_taken])), (a_kinds, .inl (X.E 5, 5, .inr (.inr (.inr (.inr (kq a_kinds_0 a_kinds_1 a_kinds_2 a_kinds_3 a_kinds_4)))))), (a_kinds_0, .inr (1, [])), (a_kinds_1, .inr (2, [])), (a_kinds_2, .inr (3, [])), (a_kinds_3, .inr (4, [])), (a_kinds_4, .inr (5, [])), (a_town, .inr (6, [.ref a_town_kind, .ref a_town_strength, .ref a_town_place, .ref a_town_length, .ref a_town_gives, .ref a_town_over, .ref a_town_under, .int town_n_39, .int town_holders_50, .int town_cuts_51, .int 8, .int r_1, .int town_draw, .ref a])), (a_town_kind, .inl (X.E 0, 8, .inl town_kind_41)), (a_town_strength, .inl (X.E 0, 8, .inl town_strength_42)), (a_town_place, .inl (X.E 0, 8, .inl town_place_43)), (a_town_length, .inl (X.E 0, 8, .inl town_length_44)), (a_town_gives, .inl (X.E 0, 8, .inl town_gives_45)), (a_town_over, .inl (X.E 1, 8, .inl town_over_52)), (a_town_under, .inl (X.E 1, 8, .inl town_under_53)), (a_fell, .inl (X.E 1, 8, .inl fell_49)), (a_tape, .inl (X.E 0, 90, .inl tape)), (a_read, .inl (X.E 1, 40, .inl read_16))]) (stk := [.int r_46]) rfl rfl rfl ?_)
            clear hv
            refine g_pop (h.wF _) dX0_street_183 rfl ?_
            refine g_iload_n (h.wF _) 1 dX0_street_184 rfl rfl ?_
            refine g_istore_n (lv' := [(3, .int r_14), (0, .ref a), (2, .int r_14)]) (h.wF _) dX0_street_185 rfl (hL 3 (fle rfl)) rfl ?_
            refine g_aload_n (h.wF _) 1 dX0_street_186 rfl rfl ?_
            refine g_iconst (v := 0) (h.wF _) dX0_street_187 kiconst_0 ?_
            refine g_put (ci := 0) (ty := tyX0 7) (ws' := [(a, .inr (0, [.ref a_kinds, .ref a_town, .ref a_tried, .ref a_fell, .int falls_47, .int tears_48, .ref a_tape, .int 0, .int place_15, .ref a_read, .ref a_undos, .ref a_kept, .ref a_keptUndos, .int isKept, .ref a_sheets, .ref a_taken])), (a_kinds, .inl (X.E 5, 5, .inr (.inr (.inr (.inr (kq a_kinds_0 a_kinds_1 a_kinds_2 a_kinds_3 a_kinds_4)))))), (a_kinds_0, .inr (1, [])), (a_kinds_1, .inr (2, [])), (a_kinds_2, .inr (3, [])), (a_kinds_3, .inr (4, [])), (a_kinds_4, .inr (5, [])), (a_town, .inr (6, [.ref a_town_kind, .ref a_town_strength, .ref a_town_place, .ref a_town_length, .ref a_town_gives, .ref a_town_over, .ref a_town_under, .int town_n_39, .int town_holders_50, .int town_cuts_51, .int 8, .int r_1, .int town_draw, .ref a])), (a_town_kind, .inl (X.E 0, 8, .inl town_kind_41)), (a_town_strength, .inl (X.E 0, 8, .inl town_strength_42)), (a_town_place, .inl (X.E 0, 8, .inl town_place_43)), (a_town_length, .inl (X.E 0, 8, .inl town_length_44)), (a_town_gives, .inl (X.E 0, 8, .inl town_gives_45)), (a_town_over, .inl (X.E 1, 8, .inl town_over_52)), (a_town_under, .inl (X.E 1, 8, .inl town_under_53)), (a_fell, .inl (X.E 1, 8, .inl fell_49)), (a_tape, .inl (X.E 0, 90, .inl tape)), (a_read, .inl (X.E 1, 40, .inl read_16))]) (h.wF _) in_X0 tyX0 tyX0_ok nmX0 0 7 rfl rfl (fle rfl) ⟨rfl, rfl⟩ q1118 rfl rfl rfl (fle rfl) rfl dX0_street_188 ?_
            refine g_iload_n (h.wF _) 0 dX0_street_191 rfl rfl ?_
            obtain ⟨rfl, rfl, rfl, rfl, rfl, rfl, rfl, rfl, rfl, rfl, rfl, rfl, rfl, rfl, rfl, rfl, rfl, rfl, rfl, rfl⟩ := sj20 hf
            exact g_iretA (h.wF _) (hF.wF _) [0, 1, 2, 3, 4, 5, 6, 7, 8, 9, 10, 11, 12, 13, 14, 15, 16, 17] rfl rfl (PD.of (List.Perm.refl _) hq22) (fle rfl) (fle rfl) dX0_street_192
        · obtain ⟨v_17, place_18, read_19, hz, hf⟩ := ob3 hf
          replace hv := hv.trans hz
          clear hz
          refine g_callVC (ci := 0) (q0 := 0) (n := 0) (As := []) (st := []) (wr := [(a_kinds, .inl (X.E 5, 5, .inr (.inr (.inr (.inr (kq a_kinds_0 a_kinds_1 a_kinds_2 a_kinds_3 a_kinds_4)))))), (a_kinds_0, .inr (1, [])), (a_kinds_1, .inr (2, [])), (a_kinds_2, .inr (3, [])), (a_kinds_3, .inr (4, [])), (a_kinds_4, .inr (5, [])), (a_town, .inr (6, [.ref a_town_kind, .ref a_town_strength, .ref a_town_place, .ref a_town_length, .ref a_town_gives, .ref a_town_over, .ref a_town_under, .int town_n, .int town_holders, .int town_cuts, .int town_hour, .int town_bears, .int town_draw, .ref a])), (a_town_kind, .inl (X.E 0, 8, .inl town_kind)), (a_town_strength, .inl (X.E 0, 8, .inl town_strength)), (a_town_place, .inl (X.E 0, 8, .inl town_place)), (a_town_length, .inl (X.E 0, 8, .inl town_length)), (a_town_gives, .inl (X.E 0, 8, .inl town_gives)), (a_town_over, .inl (X.E 1, 8, .inl town_over)), (a_town_under, .inl (X.E 1, 8, .inl town_under)), (a_fell, .inl (X.E 1, 8, .inl fell))]) (isC := [0, 16, 17]) (isR := [1, 2, 3, 4, 5, 6, 7, 8, 9, 10, 11, 12, 13, 14, 15]) (h.wF _) (hR.wF _) (ctT_X0_readsPeople (a := a) (a_kinds := a_kinds) (a_town := a_town) (a_tried := a_tried) (a_fell := a_fell) (a_tape := a_tape) (a_read := a_read) (a_undos := a_undos) (a_kept := a_kept) (a_keptUndos := a_keptUndos) (a_sheets := a_sheets) (a_taken := a_taken) (falls := falls) (tears := tears) (typed := typed) (place := place_10) (isKept := isKept) (tape := tape) (read := read) hfl hv) rfl rfl (lw_V q426 q428 qs13 q70 q429) (by decide +kernel) rfl ⟨rfl, rfl, rfl, rfl, by decide⟩ ⟨fle rfl, fle rfl, fle rfl, fle rfl, fle rfl⟩ rfl dX0_street_32 (fun C q20 w' hw => ?_)
          obtain ⟨rfl, rfl⟩ := hw
          refine ⟨193, ⟨[], _, ⟨5, 186, 193, 170⟩, "OneElastic$Fault", htb, (fun y hy => nomatch hy), rfl, by decide, q333, q345, rfl⟩, ?_⟩
          refine G.sub (ws' := [(a, .inr (0, [.ref a_kinds, .ref a_town, .ref a_tried, .ref a_fell, .int falls, .int tears, .ref a_tape, .int typed, .int place_18, .ref a_read, .ref a_undos, .ref a_kept, .ref a_keptUndos, .int isKept, .ref a_sheets, .ref a_taken])), (a_kinds, .inl (X.E 5, 5, .inr (.inr (.inr (.inr (kq a_kinds_0 a_kinds_1 a_kinds_2 a_kinds_3 a_kinds_4)))))), (a_kinds_0, .inr (1, [])), (a_kinds_1, .inr (2, [])), (a_kinds_2, .inr (3, [])), (a_kinds_3, .inr (4, [])), (a_kinds_4, .inr (5, [])), (a_town, .inr (6, [.ref a_town_kind, .ref a_town_strength, .ref a_town_place, .ref a_town_length, .ref a_town_gives, .ref a_town_over, .ref a_town_under, .int town_n, .int town_holders, .int town_cuts, .int town_hour, .int town_bears, .int town_draw, .ref a])), (a_town_kind, .inl (X.E 0, 8, .inl town_kind)), (a_town_strength, .inl (X.E 0, 8, .inl town_strength)), (a_town_place, .inl (X.E 0, 8, .inl town_place)), (a_town_length, .inl (X.E 0, 8, .inl town_length)), (a_town_gives, .inl (X.E 0, 8, .inl town_gives)), (a_town_over, .inl (X.E 1, 8, .inl town_over)), (a_town_under, .inl (X.E 1, 8, .inl town_under)), (a_fell, .inl (X.E 1, 8, .inl fell)), (a_tape, .inl (X.E 0, 90, .inl tape)), (a_read, .inl (X.E 1, 40, .inl read_19)), (q20, .inr (13, [.int v_17]))]) [15, 0, 1, 2, 3, 4, 5, 6, 7, 8, 9, 10, 11, 12, 13, 14, 16, 17, 18] rfl rfl ?_
          clear hv
          refine g_astore_n (lv' := [(1, .ref q20), (0, .ref a)]) (h.wF _) dX0_street_193 rfl (hL 1 (fle rfl)) rfl ?_
          refine g_bipush (v := (-20)) (h.wF _) dX0_street_194 kbipush_m20 ?_
          refine g_aload_n (h.wF _) 0 dX0_street_196 rfl rfl ?_
          refine g_getN (ci := 13) (v := .int v_17) (h.wF _) in_F 18 0 rfl rfl (fle rfl) rfl q406 rfl dX0_street_197 ?_
          refine g_isub (h.wF _) dX0_street_200 ?_
          refine g_istore_n (lv' := [(2, .int ((-20) - v_17)), (1, .ref q20), (0, .ref a)]) (h.wF _) dX0_street_201 rfl (hL 2 (fle rfl)) rfl ?_
          refine g_aload_n (h.wF _) 2 dX0_street_202 rfl rfl ?_
          refine g_iconst (v := 0) (h.wF _) dX0_street_203 kiconst_0 ?_
          refine g_put (ci := 0) (ty := tyX0 7) (ws' := [(a, .inr (0, [.ref a_kinds, .ref a_town, .ref a_tried, .ref a_fell, .int falls, .int tears, .ref a_tape, .int 0, .int place_18, .ref a_read, .ref a_undos, .ref a_kept, .ref a_keptUndos, .int isKept, .ref a_sheets, .ref a_taken])), (a_kinds, .inl (X.E 5, 5, .inr (.inr (.inr (.inr (kq a_kinds_0 a_kinds_1 a_kinds_2 a_kinds_3 a_kinds_4)))))), (a_kinds_0, .inr (1, [])), (a_kinds_1, .inr (2, [])), (a_kinds_2, .inr (3, [])), (a_kinds_3, .inr (4, [])), (a_kinds_4, .inr (5, [])), (a_town, .inr (6, [.ref a_town_kind, .ref a_town_strength, .ref a_town_place, .ref a_town_length, .ref a_town_gives, .ref a_town_over, .ref a_town_under, .int town_n, .int town_holders, .int town_cuts, .int town_hour, .int town_bears, .int town_draw, .ref a])), (a_town_kind, .inl (X.E 0, 8, .inl town_kind)), (a_town_strength, .inl (X.E 0, 8, .inl town_strength)), (a_town_place, .inl (X.E 0, 8, .inl town_place)), (a_town_length, .inl (X.E 0, 8, .inl town_length)), (a_town_gives, .inl (X.E 0, 8, .inl town_gives)), (a_town_over, .inl (X.E 1, 8, .inl town_over)), (a_town_under, .inl (X.E 1, 8, .inl town_under)), (a_fell, .inl (X.E 1, 8, .inl fell)), (a_tape, .inl (X.E 0, 90, .inl tape)), (a_read, .inl (X.E 1, 40, .inl read_19)), (q20, .inr (13, [.int v_17]))]) (h.wF _) in_X0 tyX0 tyX0_ok nmX0 0 7 rfl rfl (fle rfl) ⟨rfl, rfl⟩ q1118 rfl rfl rfl (fle rfl) rfl dX0_street_204 ?_
          refine g_iload_n (h.wF _) 0 dX0_street_207 rfl rfl ?_
          obtain ⟨rfl, rfl, rfl, rfl, rfl, rfl, rfl, rfl, rfl, rfl, rfl, rfl, rfl, rfl, rfl, rfl, rfl, rfl, rfl, rfl⟩ := sj20 hf
          exact g_iretA (h.wF _) (hF.wF _) [0, 1, 2, 3, 4, 5, 6, 7, 8, 9, 10, 11, 12, 13, 14, 15, 16, 17] rfl rfl (PD.of (List.Perm.refl _) hqk) (fle rfl) (fle rfl) dX0_street_208
      · obtain ⟨v_11, place_12, hz, hf⟩ := ob2 hf
        replace hv := hv.trans hz
        clear hz
        refine g_callVC (ci := 0) (q0 := 0) (n := 1) (As := [.int z_9]) (st := []) (wr := [(a_kinds, .inl (X.E 5, 5, .inr (.inr (.inr (.inr (kq a_kinds_0 a_kinds_1 a_kinds_2 a_kinds_3 a_kinds_4)))))), (a_kinds_0, .inr (1, [])), (a_kinds_1, .inr (2, [])), (a_kinds_2, .inr (3, [])), (a_kinds_3, .inr (4, [])), (a_kinds_4, .inr (5, [])), (a_town, .inr (6, [.ref a_town_kind, .ref a_town_strength, .ref a_town_place, .ref a_town_length, .ref a_town_gives, .ref a_town_over, .ref a_town_under, .int town_n, .int town_holders, .int town_cuts, .int town_hour, .int town_bears, .int town_draw, .ref a])), (a_town_kind, .inl (X.E 0, 8, .inl town_kind)), (a_town_strength, .inl (X.E 0, 8, .inl town_strength)), (a_town_place, .inl (X.E 0, 8, .inl town_place)), (a_town_length, .inl (X.E 0, 8, .inl town_length)), (a_town_gives, .inl (X.E 0, 8, .inl town_gives)), (a_town_over, .inl (X.E 1, 8, .inl town_over)), (a_town_under, .inl (X.E 1, 8, .inl town_under)), (a_fell, .inl (X.E 1, 8, .inl fell)), (a_tape, .inl (X.E 0, 90, .inl tape)), (a_read, .inl (X.E 1, 40, .inl read))]) (isC := [0]) (isR := [1, 2, 3, 4, 5, 6, 7, 8, 9, 10, 11, 12, 13, 14, 15, 16, 17]) (h.wF _) (hR.wF _) (ctT_X0_must (a := a) (a_kinds := a_kinds) (a_town := a_town) (a_tried := a_tried) (a_fell := a_fell) (a_tape := a_tape) (a_read := a_read) (a_undos := a_undos) (a_kept := a_kept) (a_keptUndos := a_keptUndos) (a_sheets := a_sheets) (a_taken := a_taken) (x1 := z_9) (falls := falls) (tears := tears) (typed := typed) (place := place_7) (isKept := isKept) hfl hv) rfl rfl (lw_V q422 q424 qs12 q70 q425) (by decide +kernel) rfl ⟨rfl, rfl, rfl, rfl, by decide⟩ ⟨fle rfl, fle rfl, fle rfl, fle rfl, fle rfl⟩ rfl dX0_street_28 (fun C q13 w' hw => ?_)
        obtain ⟨rfl, rfl⟩ := hw
        refine ⟨193, ⟨[], _, ⟨5, 186, 193, 170⟩, "OneElastic$Fault", htb, (fun y hy => nomatch hy), rfl, by decide, q333, q345, rfl⟩, ?_⟩
        refine G.sub (ws' := [(a, .inr (0, [.ref a_kinds, .ref a_town, .ref a_tried, .ref a_fell, .int falls, .int tears, .ref a_tape, .int typed, .int place_12, .ref a_read, .ref a_undos, .ref a_kept, .ref a_keptUndos, .int isKept, .ref a_sheets, .ref a_taken])), (a_kinds, .inl (X.E 5, 5, .inr (.inr (.inr (.inr (kq a_kinds_0 a_kinds_1 a_kinds_2 a_kinds_3 a_kinds_4)))))), (a_kinds_0, .inr (1, [])), (a_kinds_1, .inr (2, [])), (a_kinds_2, .inr (3, [])), (a_kinds_3, .inr (4, [])), (a_kinds_4, .inr (5, [])), (a_town, .inr (6, [.ref a_town_kind, .ref a_town_strength, .ref a_town_place, .ref a_town_length, .ref a_town_gives, .ref a_town_over, .ref a_town_under, .int town_n, .int town_holders, .int town_cuts, .int town_hour, .int town_bears, .int town_draw, .ref a])), (a_town_kind, .inl (X.E 0, 8, .inl town_kind)), (a_town_strength, .inl (X.E 0, 8, .inl town_strength)), (a_town_place, .inl (X.E 0, 8, .inl town_place)), (a_town_length, .inl (X.E 0, 8, .inl town_length)), (a_town_gives, .inl (X.E 0, 8, .inl town_gives)), (a_town_over, .inl (X.E 1, 8, .inl town_over)), (a_town_under, .inl (X.E 1, 8, .inl town_under)), (a_fell, .inl (X.E 1, 8, .inl fell)), (a_tape, .inl (X.E 0, 90, .inl tape)), (a_read, .inl (X.E 1, 40, .inl read)), (q13, .inr (13, [.int v_11]))]) [17, 0, 1, 2, 3, 4, 5, 6, 7, 8, 9, 10, 11, 12, 13, 14, 15, 16, 18] rfl rfl ?_
        clear hv
        refine g_astore_n (lv' := [(1, .ref q13), (0, .ref a)]) (h.wF _) dX0_street_193 rfl (hL 1 (fle rfl)) rfl ?_
        refine g_bipush (v := (-20)) (h.wF _) dX0_street_194 kbipush_m20 ?_
        refine g_aload_n (h.wF _) 0 dX0_street_196 rfl rfl ?_
        refine g_getN (ci := 13) (v := .int v_11) (h.wF _) in_F 18 0 rfl rfl (fle rfl) rfl q406 rfl dX0_street_197 ?_
        refine g_isub (h.wF _) dX0_street_200 ?_
        refine g_istore_n (lv' := [(2, .int ((-20) - v_11)), (1, .ref q13), (0, .ref a)]) (h.wF _) dX0_street_201 rfl (hL 2 (fle rfl)) rfl ?_
        refine g_aload_n (h.wF _) 2 dX0_street_202 rfl rfl ?_
        refine g_iconst (v := 0) (h.wF _) dX0_street_203 kiconst_0 ?_
        refine g_put (ci := 0) (ty := tyX0 7) (ws' := [(a, .inr (0, [.ref a_kinds, .ref a_town, .ref a_tried, .ref a_fell, .int falls, .int tears, .ref a_tape, .int 0, .int place_12, .ref a_read, .ref a_undos, .ref a_kept, .ref a_keptUndos, .int isKept, .ref a_sheets, .ref a_taken])), (a_kinds, .inl (X.E 5, 5, .inr (.inr (.inr (.inr (kq a_kinds_0 a_kinds_1 a_kinds_2 a_kinds_3 a_kinds_4)))))), (a_kinds_0, .inr (1, [])), (a_kinds_1, .inr (2, [])), (a_kinds_2, .inr (3, [])), (a_kinds_3, .inr (4, [])), (a_kinds_4, .inr (5, [])), (a_town, .inr (6, [.ref a_town_kind, .ref a_town_strength, .ref a_town_place, .ref a_town_length, .ref a_town_gives, .ref a_town_over, .ref a_town_under, .int town_n, .int town_holders, .int town_cuts, .int town_hour, .int town_bears, .int town_draw, .ref a])), (a_town_kind, .inl (X.E 0, 8, .inl town_kind)), (a_town_strength, .inl (X.E 0, 8, .inl town_strength)), (a_town_place, .inl (X.E 0, 8, .inl town_place)), (a_town_length, .inl (X.E 0, 8, .inl town_length)), (a_town_gives, .inl (X.E 0, 8, .inl town_gives)), (a_town_over, .inl (X.E 1, 8, .inl town_over)), (a_town_under, .inl (X.E 1, 8, .inl town_under)), (a_fell, .inl (X.E 1, 8, .inl fell)), (a_tape, .inl (X.E 0, 90, .inl tape)), (a_read, .inl (X.E 1, 40, .inl read)), (q13, .inr (13, [.int v_11]))]) (h.wF _) in_X0 tyX0 tyX0_ok nmX0 0 7 rfl rfl (fle rfl) ⟨rfl, rfl⟩ q1118 rfl rfl rfl (fle rfl) rfl dX0_street_204 ?_
        refine g_iload_n (h.wF _) 0 dX0_street_207 rfl rfl ?_
        obtain ⟨rfl, rfl, rfl, rfl, rfl, rfl, rfl, rfl, rfl, rfl, rfl, rfl, rfl, rfl, rfl, rfl, rfl, rfl, rfl, rfl⟩ := sj20 hf
        exact g_iretA (h.wF _) (hF.wF _) [0, 1, 2, 3, 4, 5, 6, 7, 8, 9, 10, 11, 12, 13, 14, 15, 16, 17] rfl rfl (PD.of (List.Perm.refl _) hqk) (fle rfl) (fle rfl) dX0_street_208
    clear hf
    have hf := hw
    clear hw
    refine g_icmp_ne (tgt := 27) (h.wF _) dX0_street_20 rfl hf (fun c8 hf => ?_) (fun c8 hf => ?_)
    · refine g_iconst (v := 1) (h.wF _) dX0_street_23 kiconst_1 ?_
      refine g_goto (tgt := 28) (h.wF _) dX0_street_24 rfl ?_
      obtain rfl := sj1 hf
      exact G.lsub [1, 0] rfl (K20 _ hdq)
    · refine g_iconst (v := 0) (h.wF _) dX0_street_27 kiconst_0 ?_
      obtain rfl := sj1 hf
      exact G.lsub [1, 0] rfl (K20 _ hdq)
  · obtain ⟨v_3, place_4, hz, hf⟩ := ob2 hf
    replace hv := hv.trans hz
    clear hz
    refine g_callVC (ci := 0) (q0 := 0) (n := 2) (As := [.int 1, .int 60]) (st := []) (wr := [(a_kinds, .inl (X.E 5, 5, .inr (.inr (.inr (.inr (kq a_kinds_0 a_kinds_1 a_kinds_2 a_kinds_3 a_kinds_4)))))), (a_kinds_0, .inr (1, [])), (a_kinds_1, .inr (2, [])), (a_kinds_2, .inr (3, [])), (a_kinds_3, .inr (4, [])), (a_kinds_4, .inr (5, [])), (a_town, .inr (6, [.ref a_town_kind, .ref a_town_strength, .ref a_town_place, .ref a_town_length, .ref a_town_gives, .ref a_town_over, .ref a_town_under, .int town_n, .int town_holders, .int town_cuts, .int town_hour, .int town_bears, .int town_draw, .ref a])), (a_town_kind, .inl (X.E 0, 8, .inl town_kind)), (a_town_strength, .inl (X.E 0, 8, .inl town_strength)), (a_town_place, .inl (X.E 0, 8, .inl town_place)), (a_town_length, .inl (X.E 0, 8, .inl town_length)), (a_town_gives, .inl (X.E 0, 8, .inl town_gives)), (a_town_over, .inl (X.E 1, 8, .inl town_over)), (a_town_under, .inl (X.E 1, 8, .inl town_under)), (a_fell, .inl (X.E 1, 8, .inl fell)), (a_read, .inl (X.E 1, 40, .inl read))]) (isC := [0, 16]) (isR := [1, 2, 3, 4, 5, 6, 7, 8, 9, 10, 11, 12, 13, 14, 15, 17]) (h.wF _) (hR.wF _) (ctT_X0_number (a := a) (a_kinds := a_kinds) (a_town := a_town) (a_tried := a_tried) (a_fell := a_fell) (a_tape := a_tape) (a_read := a_read) (a_undos := a_undos) (a_kept := a_kept) (a_keptUndos := a_keptUndos) (a_sheets := a_sheets) (a_taken := a_taken) (x1 := 1) (x2 := 60) (falls := falls) (tears := tears) (typed := typed) (place := 0) (isKept := isKept) (tape := tape) hfl hv) rfl rfl (lw_V q334 q336 qs8 q70 q337) (by decide +kernel) rfl ⟨rfl, rfl, rfl, rfl, by decide⟩ ⟨fle rfl, fle rfl, fle rfl, fle rfl, fle rfl⟩ rfl dX0_street_9 (fun C q5 w' hw => ?_)
    obtain ⟨rfl, rfl⟩ := hw
    refine ⟨193, ⟨[], _, ⟨5, 186, 193, 170⟩, "OneElastic$Fault", htb, (fun y hy => nomatch hy), rfl, by decide, q333, q345, rfl⟩, ?_⟩
    refine G.sub (ws' := [(a, .inr (0, [.ref a_kinds, .ref a_town, .ref a_tried, .ref a_fell, .int falls, .int tears, .ref a_tape, .int typed, .int place_4, .ref a_read, .ref a_undos, .ref a_kept, .ref a_keptUndos, .int isKept, .ref a_sheets, .ref a_taken])), (a_kinds, .inl (X.E 5, 5, .inr (.inr (.inr (.inr (kq a_kinds_0 a_kinds_1 a_kinds_2 a_kinds_3 a_kinds_4)))))), (a_kinds_0, .inr (1, [])), (a_kinds_1, .inr (2, [])), (a_kinds_2, .inr (3, [])), (a_kinds_3, .inr (4, [])), (a_kinds_4, .inr (5, [])), (a_town, .inr (6, [.ref a_town_kind, .ref a_town_strength, .ref a_town_place, .ref a_town_length, .ref a_town_gives, .ref a_town_over, .ref a_town_under, .int town_n, .int town_holders, .int town_cuts, .int town_hour, .int town_bears, .int town_draw, .ref a])), (a_town_kind, .inl (X.E 0, 8, .inl town_kind)), (a_town_strength, .inl (X.E 0, 8, .inl town_strength)), (a_town_place, .inl (X.E 0, 8, .inl town_place)), (a_town_length, .inl (X.E 0, 8, .inl town_length)), (a_town_gives, .inl (X.E 0, 8, .inl town_gives)), (a_town_over, .inl (X.E 1, 8, .inl town_over)), (a_town_under, .inl (X.E 1, 8, .inl town_under)), (a_fell, .inl (X.E 1, 8, .inl fell)), (a_tape, .inl (X.E 0, 90, .inl tape)), (a_read, .inl (X.E 1, 40, .inl read)), (q5, .inr (13, [.int v_3]))]) [16, 0, 1, 2, 3, 4, 5, 6, 7, 8, 9, 10, 11, 12, 13, 14, 17, 15, 18] rfl rfl ?_
    clear hv
    refine g_astore_n (lv' := [(1, .ref q5), (0, .ref a)]) (h.wF _) dX0_street_193 rfl (hL 1 (fle rfl)) rfl ?_
    refine g_bipush (v := (-20)) (h.wF _) dX0_street_194 kbipush_m20 ?_
    refine g_aload_n (h.wF _) 0 dX0_street_196 rfl rfl ?_
    refine g_getN (ci := 13) (v := .int v_3) (h.wF _) in_F 18 0 rfl rfl (fle rfl) rfl q406 rfl dX0_street_197 ?_
    refine g_isub (h.wF _) dX0_street_200 ?_
    refine g_istore_n (lv' := [(2, .int ((-20) - v_3)), (1, .ref q5), (0, .ref a)]) (h.wF _) dX0_street_201 rfl (hL 2 (fle rfl)) rfl ?_
    refine g_aload_n (h.wF _) 2 dX0_street_202 rfl rfl ?_
    refine g_iconst (v := 0) (h.wF _) dX0_street_203 kiconst_0 ?_
    refine g_put (ci := 0) (ty := tyX0 7) (ws' := [(a, .inr (0, [.ref a_kinds, .ref a_town, .ref a_tried, .ref a_fell, .int falls, .int tears, .ref a_tape, .int 0, .int place_4, .ref a_read, .ref a_undos, .ref a_kept, .ref a_keptUndos, .int isKept, .ref a_sheets, .ref a_taken])), (a_kinds, .inl (X.E 5, 5, .inr (.inr (.inr (.inr (kq a_kinds_0 a_kinds_1 a_kinds_2 a_kinds_3 a_kinds_4)))))), (a_kinds_0, .inr (1, [])), (a_kinds_1, .inr (2, [])), (a_kinds_2, .inr (3, [])), (a_kinds_3, .inr (4, [])), (a_kinds_4, .inr (5, [])), (a_town, .inr (6, [.ref a_town_kind, .ref a_town_strength, .ref a_town_place, .ref a_town_length, .ref a_town_gives, .ref a_town_over, .ref a_town_under, .int town_n, .int town_holders, .int town_cuts, .int town_hour, .int town_bears, .int town_draw, .ref a])), (a_town_kind, .inl (X.E 0, 8, .inl town_kind)), (a_town_strength, .inl (X.E 0, 8, .inl town_strength)), (a_town_place, .inl (X.E 0, 8, .inl town_place)), (a_town_length, .inl (X.E 0, 8, .inl town_length)), (a_town_gives, .inl (X.E 0, 8, .inl town_gives)), (a_town_over, .inl (X.E 1, 8, .inl town_over)), (a_town_under, .inl (X.E 1, 8, .inl town_under)), (a_fell, .inl (X.E 1, 8, .inl fell)), (a_tape, .inl (X.E 0, 90, .inl tape)), (a_read, .inl (X.E 1, 40, .inl read)), (q5, .inr (13, [.int v_3]))]) (h.wF _) in_X0 tyX0 tyX0_ok nmX0 0 7 rfl rfl (fle rfl) ⟨rfl, rfl⟩ q1118 rfl rfl rfl (fle rfl) rfl dX0_street_204 ?_
    refine g_iload_n (h.wF _) 0 dX0_street_207 rfl rfl ?_
    obtain ⟨rfl, rfl, rfl, rfl, rfl, rfl, rfl, rfl, rfl, rfl, rfl, rfl, rfl, rfl, rfl, rfl, rfl, rfl, rfl, rfl⟩ := sj20 hf
    exact g_iretA (h.wF _) (hF.wF _) [0, 1, 2, 3, 4, 5, 6, 7, 8, 9, 10, 11, 12, 13, 14, 15, 16, 17] rfl rfl (PD.of (List.Perm.refl _) hdq) (fle rfl) (fle rfl) dX0_street_208
