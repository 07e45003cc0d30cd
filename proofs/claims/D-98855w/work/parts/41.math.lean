/-! MATHEMATICS of towns and towers; the model's relation to it -/
set_option maxRecDepth 100000
/-- a town: tables, limit, food, kinds, weights, bears, leans, hungers, the rule's code -/
abbrev Tm : Type := Nat × Int32 × Int32 × (Nat → Nat) × (Nat → Int32) × (Nat → Int32) × (Nat → Int32) × (Nat → Int32) × List Int32
def tm_n (T : Tm) : Nat := T.1
def tm_li (T : Tm) : Int32 := T.2.1
def tm_fo (T : Tm) : Int32 := T.2.2.1
def tm_kd (T : Tm) : Nat → Nat := T.2.2.2.1
def tm_wt (T : Tm) : Nat → Int32 := T.2.2.2.2.1
def tm_br (T : Tm) : Nat → Int32 := T.2.2.2.2.2.1
def tm_ln (T : Tm) : Nat → Int32 := T.2.2.2.2.2.2.1
def tm_hg (T : Tm) : Nat → Int32 := T.2.2.2.2.2.2.2.1
def tm_co (T : Tm) : List Int32 := T.2.2.2.2.2.2.2.2
/-- a state: levels, tower, meals, wedges, leans, years, crumbs -/
abbrev Xm : Type := Nat × (Nat → Nat) × (Nat → Int32) × (Nat → Int32) × (Nat → Int32) × Int32 × Int32
def xm_L (X : Xm) : Nat := X.1
def xm_t (X : Xm) : Nat → Nat := X.2.1
def xm_m (X : Xm) : Nat → Int32 := X.2.2.1
def xm_w (X : Xm) : Nat → Int32 := X.2.2.2.1
def xm_l (X : Xm) : Nat → Int32 := X.2.2.2.2.1
def xm_y (X : Xm) : Int32 := X.2.2.2.2.2.1
def xm_c (X : Xm) : Int32 := X.2.2.2.2.2.2
def WT_ (T : Tm) : Prop := tm_n T ≤ 10 ∧ ∀ t, t < tm_n T → tm_kd T t < 4
def WX_ (n : Nat) (X : Xm) : Prop := xm_L X ≤ n ∧ (∀ k, k < xm_L X → xm_t X k < n) ∧ (∀ i j, i < xm_L X → j < xm_L X → xm_t X i = xm_t X j → i = j)
/-- what worm takes of a kind in a year -/
def f_wk (k : Nat) : Int32 := if k = 0 then Int32.ofNat 3 else if k = 1 then Int32.ofNat 1 else Int32.ofNat 2
/-- the model's shape -/
def sh_M (w : Wd) : Prop := w_t w 1440 = 25 ∧ w_r w 1440 0 = some 1441 ∧ w_r w 1440 1 = some 1442 ∧ w_r w 1440 2 = some 1443 ∧ w_t w 1443 = 1 ∧ w_n w 1443 = 4 ∧ w_r w 1440 4 = some 1444 ∧ w_t w 1444 = 1 ∧ w_n w 1444 = 8 ∧ w_r w 1440 5 = some 1445 ∧ w_t w 1445 = 1 ∧ w_n w 1445 = 20 ∧ w_r w 1440 6 = some 1446 ∧ w_t w 1446 = 1 ∧ w_n w 1446 = 20 ∧ w_r w 1440 7 = some 1447 ∧ w_t w 1447 = 1 ∧ w_n w 1447 = 20 ∧ w_r w 1440 8 = some 1448 ∧ w_t w 1448 = 1 ∧ w_n w 1448 = 20 ∧ w_r w 1440 9 = some 1449 ∧ w_t w 1449 = 1 ∧ w_n w 1449 = 20 ∧ w_r w 1440 10 = some 1450 ∧ w_t w 1450 = 1 ∧ w_n w 1450 = 1200 ∧ w_r w 1440 11 = some 1451 ∧ w_t w 1451 = 1 ∧ w_n w 1451 = 3 ∧ w_r w 1440 12 = some 1452 ∧ w_t w 1452 = 1 ∧ w_n w 1452 = 600 ∧ w_r w 1440 23 = some 1453 ∧ w_t w 1453 = 1 ∧ w_n w 1453 = 10 ∧ w_r w 1440 24 = some 1454 ∧ w_t w 1454 = 1 ∧ w_n w 1454 = 10 ∧ w_r w 1440 25 = some 1455 ∧ w_t w 1455 = 1 ∧ w_n w 1455 = 10 ∧ w_r w 1440 26 = some 1456 ∧ w_t w 1456 = 1 ∧ w_n w 1456 = 10 ∧ w_r w 1440 27 = some 1457 ∧ w_t w 1457 = 1 ∧ w_n w 1457 = 1720 ∧ w_r w 1440 33 = some 1458 ∧ w_t w 1458 = 1 ∧ w_n w 1458 = 6 ∧ w_r w 1440 34 = some 1459 ∧ w_t w 1459 = 1 ∧ w_n w 1459 = 64 ∧ w_r w 1440 35 = some 1460 ∧ w_t w 1460 = 1 ∧ w_n w 1460 = 43 ∧ w_r w 1440 36 = some 1461 ∧ w_t w 1461 = 1 ∧ w_n w 1461 = 1024 ∧ w_r w 1440 37 = some 1462 ∧ w_t w 1462 = 1 ∧ w_n w 1462 = 1024 ∧ w_r w 1440 38 = some 1463 ∧ w_t w 1463 = 4 ∧ w_n w 1463 = 1024 ∧ w_r w 1440 41 = some 1464 ∧ w_t w 1464 = 1 ∧ w_n w 1464 = 81 ∧ w_r w 1440 42 = some 1465 ∧ w_t w 1465 = 1 ∧ w_n w 1465 = 81 ∧ w_r w 1440 43 = some 1466 ∧ w_t w 1466 = 1 ∧ w_n w 1466 = 8 ∧ w_r w 1440 44 = some 1467 ∧ w_t w 1467 = 1 ∧ w_n w 1467 = 8 ∧ w_r w 1440 45 = some 1468 ∧ w_t w 1468 = 1 ∧ w_n w 1468 = 200 ∧ w_r w 1440 46 = some 1469 ∧ w_t w 1469 = 1 ∧ w_n w 1469 = 200 ∧ w_r w 1440 48 = some 1470 ∧ w_t w 1470 = 1 ∧ w_n w 1470 = 200 ∧ w_r w 1440 53 = some 1471 ∧ w_t w 1471 = 1 ∧ w_n w 1471 = 43 ∧ w_r w 1440 54 = some 1472 ∧ w_t w 1472 = 1 ∧ w_n w 1472 = 1720 ∧ w_r w 1440 55 = some 1473 ∧ w_t w 1473 = 1 ∧ w_n w 1473 = 8 ∧ w_r w 1440 56 = some 1474 ∧ w_t w 1474 = 1 ∧ w_n w 1474 = 8 ∧ w_r w 1440 57 = some 1475 ∧ w_t w 1475 = 1 ∧ w_n w 1475 = 3 ∧ w_t w 1441 = 6 ∧ w_n w 1441 = 4 ∧ w_t w 1442 = 6 ∧ w_n w 1442 = 6
/-- the model's town -/
def MT_ (w : Wd) (T : Tm) : Prop := w_i w 1444 0 = Int32.ofNat (tm_n T) ∧ w_i w 1444 1 = tm_li T ∧ w_i w 1444 2 = tm_fo T ∧ w_i w 1444 3 = Int32.ofNat (tm_co T).length ∧ (∀ t, t < tm_n T → w_i w 1445 t = Int32.ofNat (tm_kd T t)) ∧ (∀ t, t < tm_n T → w_i w 1446 t = tm_wt T t) ∧ (∀ t, t < tm_n T → w_i w 1447 t = tm_br T t) ∧ (∀ t, t < tm_n T → w_i w 1448 t = tm_ln T t) ∧ (∀ t, t < tm_n T → w_i w 1449 t = tm_hg T t) ∧ (∀ k, k < (tm_co T).length → w_i w 1450 k = (tm_co T).getD k 0) ∧ (∀ k, k < 4 → w_i w 1443 k = f_wk k)
/-- the model's state -/
def MS_ (w : Wd) (n : Nat) (X : Xm) : Prop := w_i w 1440 28 = Int32.ofNat (xm_L X) ∧ w_i w 1440 29 = xm_y X ∧ w_i w 1440 30 = xm_c X ∧ (∀ k, k < xm_L X → w_i w 1453 k = Int32.ofNat (xm_t X k)) ∧ (∀ t, t < n → w_i w 1454 t = xm_m X t) ∧ (∀ t, t < n → w_i w 1455 t = xm_w X t) ∧ (∀ t, t < n → w_i w 1456 t = xm_l X t)
def MQ_ (w : Wd) (T : Tm) (X : Xm) : Prop := sh_M w ∧ MT_ w T ∧ MS_ w (tm_n T) X ∧ WT_ T ∧ WX_ (tm_n T) X
def o_i (o : Option Nat) : Int32 := match o with | some k => Int32.ofNat k | none => Int32.ofInt (-1)
theorem o_i_n : o_i none = Int32.ofInt (-1) := rfl
theorem o_i_s (k : Nat) : o_i (some k) = Int32.ofNat k := rfl
/-- level of a table -/
def f_lv (X : Xm) (t : Nat) : Option Nat := ff_ (fun k => decide (xm_t X k = t)) 0 (xm_L X)
def f_load (T : Tm) (X : Xm) (l : Nat) : Int32 := it_ (fun k v => v + (tm_wt T (xm_t X k) + xm_m X (xm_t X k))) (l + 1) (xm_L X - (l + 1)) (xm_m X (xm_t X l))
def i_mx (x y : Int32) : Int32 := if x < y then y else x
def i_mn (x y : Int32) : Int32 := if y < x then y else x
def i_ab (x : Int32) : Int32 := if Int32.ofNat 0 ≤ x then x else Int32.ofNat 0 - x
/-- what a table carries in a year -/
def f_car (T : Tm) (y : Int32) (t : Nat) (top : Bool) : Int32 := i_mx (Int32.ofNat 0) ((if tm_kd T t = 2 ∧ top = false then tm_br T t / Int32.ofNat 2 else tm_br T t) - f_wk (tm_kd T t) * y)
def f_tu (T : Tm) (X : Xm) (t : Nat) : Int32 := if tm_kd T t = 3 then Int32.ofNat 2 * (xm_l X t + xm_w X t) else xm_l X t + xm_w X t
def f_tilt (T : Tm) (X : Xm) (l : Nat) : Int32 := it_ (fun k v => v + f_tu T X (xm_t X k)) 0 (l + 1) (Int32.ofNat 0)
def f_cb (T : Tm) (X : Xm) (l : Nat) : Int32 := f_car T (xm_y X) (xm_t X l) (decide (l + 1 = xm_L X))
def f_held (T : Tm) (X : Xm) (l : Nat) : Bool := decide (f_load T X l ≤ f_cb T X l ∧ i_ab (f_tilt T X l) ≤ tm_li T)
def f_brk (T : Tm) (X : Xm) : Option Nat := ff_ (fun l => !f_held T X l) 0 (xm_L X)
def f_st (T : Tm) (X : Xm) : Bool := (f_brk T X).isNone
def f_more (T : Tm) (X : Xm) : Int32 := if f_st T X = true then it_ (fun l v => i_mn v (f_cb T X l - f_load T X l)) 0 (xm_L X) (Int32.ofNat 9999) else Int32.ofInt (-1)
def f_full (T : Tm) (X : Xm) : Nat := it_ (fun l v => if tm_hg T (xm_t X l) ≤ xm_m X (xm_t X l) then v ||| 2 ^ xm_t X l else v) 0 (xm_L X) 0
def f_all (X : Xm) : Nat := it_ (fun l v => v ||| 2 ^ xm_t X l) 0 (xm_L X) 0
