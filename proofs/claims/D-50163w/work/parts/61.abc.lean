section FLD
theorem fgk_0 {x0 : Value} {l : List Value} : fg_ (x0 :: l) 0 = x0 := rfl
theorem fsk_0 {x0 v : Value} {l : List Value} : (x0 :: l).set 0 v = v :: l := rfl
theorem fgk_1 {x0 x1 : Value} {l : List Value} : fg_ (x0 :: x1 :: l) 1 = x1 := rfl
theorem fsk_1 {x0 x1 v : Value} {l : List Value} : (x0 :: x1 :: l).set 1 v = x0 :: v :: l := rfl
theorem fgk_2 {x0 x1 x2 : Value} {l : List Value} : fg_ (x0 :: x1 :: x2 :: l) 2 = x2 := rfl
theorem fsk_2 {x0 x1 x2 v : Value} {l : List Value} : (x0 :: x1 :: x2 :: l).set 2 v = x0 :: x1 :: v :: l := rfl
theorem fgk_3 {x0 x1 x2 x3 : Value} {l : List Value} : fg_ (x0 :: x1 :: x2 :: x3 :: l) 3 = x3 := rfl
theorem fsk_3 {x0 x1 x2 x3 v : Value} {l : List Value} : (x0 :: x1 :: x2 :: x3 :: l).set 3 v = x0 :: x1 :: x2 :: v :: l := rfl
theorem fgk_4 {x0 x1 x2 x3 x4 : Value} {l : List Value} : fg_ (x0 :: x1 :: x2 :: x3 :: x4 :: l) 4 = x4 := rfl
theorem fsk_4 {x0 x1 x2 x3 x4 v : Value} {l : List Value} : (x0 :: x1 :: x2 :: x3 :: x4 :: l).set 4 v = x0 :: x1 :: x2 :: x3 :: v :: l := rfl
theorem fgk_5 {x0 x1 x2 x3 x4 x5 : Value} {l : List Value} : fg_ (x0 :: x1 :: x2 :: x3 :: x4 :: x5 :: l) 5 = x5 := rfl
theorem fsk_5 {x0 x1 x2 x3 x4 x5 v : Value} {l : List Value} : (x0 :: x1 :: x2 :: x3 :: x4 :: x5 :: l).set 5 v = x0 :: x1 :: x2 :: x3 :: x4 :: v :: l := rfl
theorem fgk_6 {x0 x1 x2 x3 x4 x5 x6 : Value} {l : List Value} : fg_ (x0 :: x1 :: x2 :: x3 :: x4 :: x5 :: x6 :: l) 6 = x6 := rfl
theorem fsk_6 {x0 x1 x2 x3 x4 x5 x6 v : Value} {l : List Value} : (x0 :: x1 :: x2 :: x3 :: x4 :: x5 :: x6 :: l).set 6 v = x0 :: x1 :: x2 :: x3 :: x4 :: x5 :: v :: l := rfl
theorem fgk_7 {x0 x1 x2 x3 x4 x5 x6 x7 : Value} {l : List Value} : fg_ (x0 :: x1 :: x2 :: x3 :: x4 :: x5 :: x6 :: x7 :: l) 7 = x7 := rfl
theorem fsk_7 {x0 x1 x2 x3 x4 x5 x6 x7 v : Value} {l : List Value} : (x0 :: x1 :: x2 :: x3 :: x4 :: x5 :: x6 :: x7 :: l).set 7 v = x0 :: x1 :: x2 :: x3 :: x4 :: x5 :: x6 :: v :: l := rfl
theorem fgk_8 {x0 x1 x2 x3 x4 x5 x6 x7 x8 : Value} {l : List Value} : fg_ (x0 :: x1 :: x2 :: x3 :: x4 :: x5 :: x6 :: x7 :: x8 :: l) 8 = x8 := rfl
theorem fsk_8 {x0 x1 x2 x3 x4 x5 x6 x7 x8 v : Value} {l : List Value} : (x0 :: x1 :: x2 :: x3 :: x4 :: x5 :: x6 :: x7 :: x8 :: l).set 8 v = x0 :: x1 :: x2 :: x3 :: x4 :: x5 :: x6 :: x7 :: v :: l := rfl
theorem fgk_9 {x0 x1 x2 x3 x4 x5 x6 x7 x8 x9 : Value} {l : List Value} : fg_ (x0 :: x1 :: x2 :: x3 :: x4 :: x5 :: x6 :: x7 :: x8 :: x9 :: l) 9 = x9 := rfl
theorem fsk_9 {x0 x1 x2 x3 x4 x5 x6 x7 x8 x9 v : Value} {l : List Value} : (x0 :: x1 :: x2 :: x3 :: x4 :: x5 :: x6 :: x7 :: x8 :: x9 :: l).set 9 v = x0 :: x1 :: x2 :: x3 :: x4 :: x5 :: x6 :: x7 :: x8 :: v :: l := rfl
theorem fgk_10 {x0 x1 x2 x3 x4 x5 x6 x7 x8 x9 x10 : Value} {l : List Value} : fg_ (x0 :: x1 :: x2 :: x3 :: x4 :: x5 :: x6 :: x7 :: x8 :: x9 :: x10 :: l) 10 = x10 := rfl
theorem fsk_10 {x0 x1 x2 x3 x4 x5 x6 x7 x8 x9 x10 v : Value} {l : List Value} : (x0 :: x1 :: x2 :: x3 :: x4 :: x5 :: x6 :: x7 :: x8 :: x9 :: x10 :: l).set 10 v = x0 :: x1 :: x2 :: x3 :: x4 :: x5 :: x6 :: x7 :: x8 :: x9 :: v :: l := rfl
theorem fgk_11 {x0 x1 x2 x3 x4 x5 x6 x7 x8 x9 x10 x11 : Value} {l : List Value} : fg_ (x0 :: x1 :: x2 :: x3 :: x4 :: x5 :: x6 :: x7 :: x8 :: x9 :: x10 :: x11 :: l) 11 = x11 := rfl
theorem fsk_11 {x0 x1 x2 x3 x4 x5 x6 x7 x8 x9 x10 x11 v : Value} {l : List Value} : (x0 :: x1 :: x2 :: x3 :: x4 :: x5 :: x6 :: x7 :: x8 :: x9 :: x10 :: x11 :: l).set 11 v = x0 :: x1 :: x2 :: x3 :: x4 :: x5 :: x6 :: x7 :: x8 :: x9 :: x10 :: v :: l := rfl
theorem fgk_12 {x0 x1 x2 x3 x4 x5 x6 x7 x8 x9 x10 x11 x12 : Value} {l : List Value} : fg_ (x0 :: x1 :: x2 :: x3 :: x4 :: x5 :: x6 :: x7 :: x8 :: x9 :: x10 :: x11 :: x12 :: l) 12 = x12 := rfl
theorem fsk_12 {x0 x1 x2 x3 x4 x5 x6 x7 x8 x9 x10 x11 x12 v : Value} {l : List Value} : (x0 :: x1 :: x2 :: x3 :: x4 :: x5 :: x6 :: x7 :: x8 :: x9 :: x10 :: x11 :: x12 :: l).set 12 v = x0 :: x1 :: x2 :: x3 :: x4 :: x5 :: x6 :: x7 :: x8 :: x9 :: x10 :: x11 :: v :: l := rfl
theorem fgk_13 {x0 x1 x2 x3 x4 x5 x6 x7 x8 x9 x10 x11 x12 x13 : Value} {l : List Value} : fg_ (x0 :: x1 :: x2 :: x3 :: x4 :: x5 :: x6 :: x7 :: x8 :: x9 :: x10 :: x11 :: x12 :: x13 :: l) 13 = x13 := rfl
theorem fsk_13 {x0 x1 x2 x3 x4 x5 x6 x7 x8 x9 x10 x11 x12 x13 v : Value} {l : List Value} : (x0 :: x1 :: x2 :: x3 :: x4 :: x5 :: x6 :: x7 :: x8 :: x9 :: x10 :: x11 :: x12 :: x13 :: l).set 13 v = x0 :: x1 :: x2 :: x3 :: x4 :: x5 :: x6 :: x7 :: x8 :: x9 :: x10 :: x11 :: x12 :: v :: l := rfl
theorem ca_i {x : Int32} : (Value.int x).category = 1 := rfl
theorem ca_r {x : Nat} : (Value.ref x).category = 1 := rfl
theorem ca_n : Value.null.category = 1 := rfl
end FLD
