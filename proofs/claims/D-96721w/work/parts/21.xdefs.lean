/-! what the class computes (printed by prog/extract.py) -/
def wp_X1_init (w : Wd) (a0 : Nat) (k : Wd → Prop) : Prop :=
  wna w 0 7 7 (fun n1 w2 =>
  wpG w2 (some a0) [21] 100 (some n1) (fun w3 =>
  wna w3 6 8 8 (fun n4 w5 =>
  wpG w5 (some a0) [21] 101 (some n4) (fun w6 =>
  wna w6 0 8 8 (fun n7 w8 =>
  wpG w8 (some a0) [21] 102 (some n7) (fun w9 =>
  wna w9 0 8 8 (fun n10 w11 =>
  wpG w11 (some a0) [21] 103 (some n10) (fun w12 =>
  wna w12 0 8 8 (fun n13 w14 =>
  wpG w14 (some a0) [21] 104 (some n13) (fun w15 =>
  wna w15 0 3 3 (fun n16 w17 =>
  wst w17 (some n16) 0 0 0 (fun w18 =>
  wst w18 (some n16) 0 1 0 (fun w19 =>
  wst w19 (some n16) 0 2 3 (fun w20 =>
  wpG w20 (some a0) [21] 105 (some n16) (fun w21 =>
  wpF w21 (some a0) [21] 106 5 (fun w22 =>
  wpF w22 (some a0) [21] 110 1 (fun w23 =>
  k w23)))))))))))))))))
def wp_X2_init (w : Wd) (a0 : Nat) (k : Wd → Prop) : Prop :=
  k w
def wp_X3_init (w : Wd) (a0 : Nat) (k : Wd → Prop) : Prop :=
  k w
def wb_X0_init_126 (k : Wd → Prop) (L126 : Wd → Nat → Int32 → Prop) (w : Wd) (a0 : Nat) (l1 : Int32) : Prop :=
    if (6 : Int32) < l1 then (
      k w
    ) else (
      wgG w (some a0) [20] 4 (fun v34 =>
      wnew w 22 8 (fun n35 w36 =>
      wp_X2_init w36 n35 (fun w37 =>
      wstQ w37 v34 7 [22] l1 (some n35) (fun w38 =>
      wgG w38 (some a0) [20] 5 (fun v39 =>
      wnew w38 22 8 (fun n40 w41 =>
      wp_X2_init w41 n40 (fun w42 =>
      wstQ w42 v39 7 [22] l1 (some n40) (fun w43 =>
      L126 w43 a0 (l1 + 1)))))))))
    )
def wl_X0_init_126 (k : Wd → Prop) (n : Nat) : Wd → Nat → Int32 → Prop := Nat.rec (motive := fun _ => Wd → Nat → Int32 → Prop) (fun _ _ _ => False) (fun _ L => wb_X0_init_126 k L) n
theorem wl_X0_init_126_s (k : Wd → Prop) (n : Nat) : wl_X0_init_126 k (n + 1) = wb_X0_init_126 k (wl_X0_init_126 k n) := rfl
theorem wl_X0_init_126_0 (k : Wd → Prop) : wl_X0_init_126 k 0 = fun _ _ _ => False := rfl
def wb_X0_init_99 (k : Wd → Prop) (L99 : Wd → Nat → Int32 → Prop) (w : Wd) (a0 : Nat) (l1 : Int32) : Prop :=
    if (8 : Int32) ≤ l1 then (
      wl_X0_init_126 k 9 w a0 0
    ) else (
      wgG w (some a0) [20] 8 (fun v44 =>
      wnew w 23 1 (fun n45 w46 =>
      wp_X3_init w46 n45 (fun w47 =>
      wstQ w47 v44 8 [23] l1 (some n45) (fun w48 =>
      L99 w48 a0 (l1 + 1)))))
    )
def wl_X0_init_99 (k : Wd → Prop) (n : Nat) : Wd → Nat → Int32 → Prop := Nat.rec (motive := fun _ => Wd → Nat → Int32 → Prop) (fun _ _ _ => False) (fun _ L => wb_X0_init_99 k L) n
theorem wl_X0_init_99_s (k : Wd → Prop) (n : Nat) : wl_X0_init_99 k (n + 1) = wb_X0_init_99 k (wl_X0_init_99 k n) := rfl
theorem wl_X0_init_99_0 (k : Wd → Prop) : wl_X0_init_99 k 0 = fun _ _ _ => False := rfl
def wp_X0_init (w : Wd) (a0 : Nat) (k : Wd → Prop) : Prop :=
  wnew w 21 11 (fun n1 w2 =>
  wp_X1_init w2 n1 (fun w3 =>
  wpG w3 (some a0) [20] 0 (some n1) (fun w4 =>
  wnew w4 22 8 (fun n5 w6 =>
  wp_X2_init w6 n5 (fun w7 =>
  wpG w7 (some a0) [20] 2 (some n5) (fun w8 =>
  wnew w8 22 8 (fun n9 w10 =>
  wp_X2_init w10 n9 (fun w11 =>
  wpG w11 (some a0) [20] 3 (some n9) (fun w12 =>
  wna w12 7 7 7 (fun n13 w14 =>
  wpG w14 (some a0) [20] 4 (some n13) (fun w15 =>
  wna w15 7 7 7 (fun n16 w17 =>
  wpG w17 (some a0) [20] 5 (some n16) (fun w18 =>
  wna w18 0 6 6 (fun n19 w20 =>
  wpG w20 (some a0) [20] 6 (some n19) (fun w21 =>
  wna w21 0 70 70 (fun n22 w23 =>
  wpG w23 (some a0) [20] 7 (some n22) (fun w24 =>
  wna w24 8 8 8 (fun n25 w26 =>
  wpG w26 (some a0) [20] 8 (some n25) (fun w27 =>
  wna w27 0 250 250 (fun n28 w29 =>
  wpG w29 (some a0) [20] 9 (some n28) (fun w30 =>
  wna w30 0 7 7 (fun n31 w32 =>
  wpG w32 (some a0) [20] 11 (some n31) (fun w33 =>
  wl_X0_init_99 k 10 w33 a0 0)))))))))))))))))))))))
def wp_X0_isIn (w : Wd) (a0 : Int32) (a1 : Int32) (a2 : Int32) (k : Int32 → Wd → Prop) : Prop :=
  if a0 < a1 then (
    k 0 w
  ) else (
    if a2 < a0 then (
      k 0 w
    ) else (
      k 1 w
    )
  )
def wp_X0_isShelf (w : Wd) (a0 : Int32) (k : Int32 → Wd → Prop) : Prop :=
  wp_X0_isIn w a0 0 7 (fun v1 w2 =>
  (narrow .boolean (.int v1) = .int v1) ∧ k v1 w2)
def wp_X0_no (w : Wd) (a0 : Nat) (a1 : Int32) (k : Int32 → Wd → Prop) : Prop :=
  wgG w (some a0) [20] 11 (fun v1 =>
  wld w v1 0 (-a1) (fun v2 =>
  wst w v1 0 (-a1) (v2 + 1) (fun w3 =>
  k a1 w3)))
def wp_X0_rowOf (w : Wd) (a0 : Int32) (a1 : Int32) (x : Nat → Wd → Prop) (k : Option Nat → Wd → Prop) : Prop :=
  if a0 = 0 then (
    wnaX w 1 a1 40 (fun q3 w4 => x q3 w4) (fun n1 w2 =>
    k (some n1) w2)
  ) else (
  if a0 = 1 then (
    wnaX w 2 a1 40 (fun q7 w8 => x q7 w8) (fun n5 w6 =>
    k (some n5) w6)
  ) else (
  if a0 = 2 then (
    wnaX w 0 a1 40 (fun q11 w12 => x q11 w12) (fun n9 w10 =>
    k (some n9) w10)
  ) else (
  if a0 = 3 then (
    wnaX w 5 a1 40 (fun q15 w16 => x q15 w16) (fun n13 w14 =>
    k (some n13) w14)
  ) else (
    wnaX w 4 a1 40 (fun q19 w20 => x q19 w20) (fun n17 w18 =>
    k (some n17) w18)
  ))))
def wb_X0_row_46 (k : Int32 → Wd → Prop) (w : Wd) (a0 : Nat) (s0 : Option Nat) : Prop :=
    wob w a0 [20] ∧
    wp_X0_no w a0 (-2) (fun v15 w16 =>
    k v15 w16)
def wp_X0_row (w : Wd) (a0 : Nat) (a1 : Int32) (a2 : Int32) (a3 : Int32) (k : Int32 → Wd → Prop) : Prop :=
  wp_X0_isShelf w a1 (fun v1 w2 =>
  if v1 = 0 then (
    wob w2 a0 [20] ∧
    wp_X0_no w2 a0 (-2) (fun v3 w4 =>
    k v3 w4)
  ) else (
    if a2 < 0 then (
      wob w2 a0 [20] ∧
      wp_X0_no w2 a0 (-2) (fun v5 w6 =>
      k v5 w6)
    ) else (
      if (4 : Int32) < a2 then (
        wob w2 a0 [20] ∧
        wp_X0_no w2 a0 (-2) (fun v7 w8 =>
        k v7 w8)
      ) else (
        if a3 ≤ 40 then (
          wgG w2 (some a0) [20] 8 (fun v9 =>
          wldQ w2 v9 8 a1 (fun v10 =>
          wp_X0_rowOf w2 a2 a3 (fun q13 w14 => wb_X0_row_46 k w14 a0 (some q13)) (fun v11 w12 =>
          wpG w12 v10 [23] 300 v11 (fun w17 =>
          k 1 w17))))
        ) else (
          wob w2 a0 [20] ∧
          wp_X0_no w2 a0 (-2) (fun v18 w19 =>
          k v18 w19)
        )
      )
    )
  ))
def wb_J0_init_3_41 (k : Wd → Prop) (w : Wd) (a0 : Nat) (l1 : Option Nat) (l2 : Option Nat) (l3 : Int32) : Prop :=
    wpG w (some a0) [25, 33] 503 l1 (fun w5 =>
    wpG w5 (some a0) [25, 33] 500 l2 (fun w6 =>
    if l3 = 0 then (
      wpG w6 (some a0) [25, 33] 502 none (fun w7 =>
      k w7)
    ) else (
      k w6
    )))
def wp_J0_init_3 (w : Wd) (a0 : Nat) (a1 : Option Nat) (a2 : Option Nat) (a3 : Int32) (a4 : Int32) (k : Wd → Prop) : Prop :=
  wpG w (some a0) [25, 33] 500 (some a0) (fun w1 =>
  wpG w1 (some a0) [25, 33] 501 (wk w1 2) (fun w2 =>
  wpG w2 (some a0) [25, 33] 502 (wk w2 3) (fun w3 =>
  if a4 = 0 then (
    wpG w3 (some a0) [25, 33] 501 none (fun w4 =>
    wb_J0_init_3_41 k w4 a0 a1 a2 a3)
  ) else (
    False
  ))))
def wp_J1_init_2 (w : Wd) (a0 : Nat) (a1 : Option Nat) (a2 : Option Nat) (a3 : Int32) (a4 : Int32) (k : Wd → Prop) : Prop :=
  wp_J0_init_3 w a0 a1 a2 a3 a4 (fun w1 =>
  k w1)
def wp_J2_init_2 (w : Wd) (a0 : Nat) (a1 : Option Nat) (a2 : Option Nat) (a3 : Int32) (a4 : Int32) (k : Wd → Prop) : Prop :=
  wp_J1_init_2 w a0 a1 a2 a3 a4 (fun w1 =>
  k w1)
def wp_X5_init (w : Wd) (a0 : Nat) (a1 : Int32) (k : Wd → Prop) : Prop :=
  wp_J2_init_2 w a0 none none 0 0 (fun w1 =>
  wpF w1 (some a0) [25] 506 a1 (fun w2 =>
  k w2))
def wp_X0_rowIn (w : Wd) (a0 : Nat) (a1 : Int32) (x : Nat → Wd → Prop) (k : Option Nat → Wd → Prop) : Prop :=
  wgG w (some a0) [20] 8 (fun v1 =>
  wldQ w v1 8 a1 (fun v2 =>
  wgG w v2 [23] 300 (fun v3 =>
  wio w v3 [26, 27, 28, 29, 30, 31] [1, 2, 0, 5, 4] (fun v4 =>
  if v4 = 0 then (
    if v3 = none then (
      wnew w 25 7 (fun n5 w6 =>
      wp_X5_init w6 n5 (-4) (fun w7 =>
      wthr w7 (some n5) 25 (fun q8 => x q8 w7)))
    ) else (
      k v3 w
    )
  ) else (
    wnew w 25 7 (fun n9 w10 =>
    wp_X5_init w10 n9 (-3) (fun w11 =>
    wthr w11 (some n9) 25 (fun q12 => x q12 w11)))
  )))))
def wp_X0_sortOf (w : Wd) (a0 : Option Nat) (k : Int32 → Wd → Prop) : Prop :=
  wio w a0 [1] [2, 0, 5, 4] (fun v1 =>
  if v1 = 0 then (
    wio w a0 [2] [0, 5, 4] (fun v2 =>
    if v2 = 0 then (
      wio w a0 [0] [5, 4] (fun v3 =>
      if v3 = 0 then (
        wio w a0 [5] [4] (fun v4 =>
        if v4 = 0 then (
          k 4 w
        ) else (
          k 3 w
        ))
      ) else (
        k 2 w
      ))
    ) else (
      k 1 w
    ))
  ) else (
    k 0 w
  ))
def wp_X0_puts (w : Wd) (a0 : Option Nat) (a1 : Int32) (a2 : Int64) (x : Nat → Wd → Prop) (k : Wd → Prop) : Prop :=
  wp_X0_sortOf w a0 (fun v1 w2 =>
  if v1 = 0 then (
    wcc w2 a0 [1] (
    wstX w2 a0 1 a1 (vp_nar .byte ((a2.toInt32).toInt8.toInt32)) (fun q4 w5 => x q4 w5) (fun w3 =>
    k w3))
  ) else (
  if v1 = 1 then (
    wcc w2 a0 [2] (
    wstX w2 a0 2 a1 (vp_nar .short ((a2.toInt32).toInt16.toInt32)) (fun q7 w8 => x q7 w8) (fun w6 =>
    k w6))
  ) else (
  if v1 = 2 then (
    wcc w2 a0 [0] (
    wstX w2 a0 0 a1 (a2.toInt32) (fun q10 w11 => x q10 w11) (fun w9 =>
    k w9))
  ) else (
  if v1 = 3 then (
    wcc w2 a0 [5] (
    wstLX w2 a0 a1 a2 (fun q13 w14 => x q13 w14) (fun w12 =>
    k w12))
  ) else (
    wcc w2 a0 [4] (
    if (lg_cmp a2 0) = 0 then (
      wstX w2 a0 4 a1 (vp_nar .boolean 0) (fun q16 w17 => x q16 w17) (fun w15 =>
      k w15)
    ) else (
      wstX w2 a0 4 a1 (vp_nar .boolean 1) (fun q19 w20 => x q19 w20) (fun w18 =>
      k w18)
    ))
  )))))
def wb_X0_set_26 (k : Int32 → Wd → Prop) (w : Wd) (a0 : Nat) (s0 : Option Nat) : Prop :=
    wgF w s0 [25] 506 (fun v7 =>
    wob w a0 [20] ∧
    wp_X0_no w a0 v7 (fun v8 w9 =>
    k v8 w9))
def wb_X0_set_38 (k : Int32 → Wd → Prop) (w : Wd) (a0 : Nat) (s0 : Option Nat) : Prop :=
    wob w a0 [20] ∧
    wp_X0_no w a0 (-2) (fun v13 w14 =>
    k v13 w14)
def wp_X0_set (w : Wd) (a0 : Nat) (a1 : Int32) (a2 : Int32) (a3 : Int64) (k : Int32 → Wd → Prop) : Prop :=
  wp_X0_isShelf w a1 (fun v1 w2 =>
  if v1 = 0 then (
    wob w2 a0 [20] ∧
    wp_X0_no w2 a0 (-2) (fun v15 w16 =>
    k v15 w16)
  ) else (
    wob w2 a0 [20] ∧
    wp_X0_rowIn w2 a0 a1 (fun q5 w6 => wb_X0_set_26 k w6 a0 (some q5)) (fun v3 w4 =>
    wp_X0_puts w4 v3 a2 a3 (fun q11 w12 => wb_X0_set_38 k w12 a0 (some q11)) (fun w10 =>
    k 1 w10))
  ))
def wp_X0_elementOf (w : Wd) (a0 : Option Nat) (a1 : Int32) (x : Nat → Wd → Prop) (k : Int64 → Wd → Prop) : Prop :=
  wp_X0_sortOf w a0 (fun v1 w2 =>
  if v1 = 0 then (
    wcc w2 a0 [1] (
    wldX w2 a0 1 a1 (fun q4 w5 => x q4 w5) (fun v3 =>
    k (v3.toInt64) w2))
  ) else (
  if v1 = 1 then (
    wcc w2 a0 [2] (
    wldX w2 a0 2 a1 (fun q7 w8 => x q7 w8) (fun v6 =>
    k (v6.toInt64) w2))
  ) else (
  if v1 = 2 then (
    wcc w2 a0 [0] (
    wldX w2 a0 0 a1 (fun q10 w11 => x q10 w11) (fun v9 =>
    k (v9.toInt64) w2))
  ) else (
  if v1 = 3 then (
    wcc w2 a0 [5] (
    wldLX w2 a0 a1 (fun q13 w14 => x q13 w14) (fun v12 =>
    k v12 w2))
  ) else (
    wcc w2 a0 [4] (
    wldX w2 a0 4 a1 (fun q16 w17 => x q16 w17) (fun v15 =>
    if v15 = 0 then (
      k 0 w2
    ) else (
      k 1 w2
    )))
  )))))
def wb_X0_element_19 (k : Int64 → Wd → Prop) (w : Wd) (s0 : Option Nat) : Prop :=
    k 0 w
def wb_X0_element_22 (k : Int64 → Wd → Prop) (w : Wd) (s0 : Option Nat) : Prop :=
    k 0 w
def wp_X0_element (w : Wd) (a0 : Nat) (a1 : Int32) (a2 : Int32) (k : Int64 → Wd → Prop) : Prop :=
  wp_X0_isShelf w a1 (fun v1 w2 =>
  if v1 = 0 then (
    k 0 w2
  ) else (
    wob w2 a0 [20] ∧
    wp_X0_rowIn w2 a0 a1 (fun q5 w6 => wb_X0_element_19 k w6 (some q5)) (fun v3 w4 =>
    wp_X0_elementOf w4 v3 a2 (fun q9 w10 => wb_X0_element_22 k w10 (some q9)) (fun v7 w8 =>
    k v7 w8))
  ))
def wp_X0_holds (w : Wd) (a0 : Nat) (a1 : Int32) (k : Int32 → Wd → Prop) : Prop :=
  wp_X0_isShelf w a1 (fun v1 w2 =>
  if v1 = 0 then (
    k (-1) w2
  ) else (
    wgG w2 (some a0) [20] 8 (fun v3 =>
    wldQ w2 v3 8 a1 (fun v4 =>
    wgG w2 v4 [23] 300 (fun v5 =>
    if v5 = none then (
      k (-1) w2
    ) else (
      wgG w2 (some a0) [20] 8 (fun v6 =>
      wldQ w2 v6 8 a1 (fun v7 =>
      wgG w2 v7 [23] 300 (fun v8 =>
      wio w2 v8 [26, 27, 28, 29, 30, 31] [1, 2, 0, 5, 4] (fun v9 =>
      if v9 = 0 then (
        wp_X0_sortOf w2 v8 (fun v10 w11 =>
        k v10 w11)
      ) else (
        wcc w2 v8 [26, 27, 28, 29, 30, 31] (
        wgF w2 v8 [26, 27, 28, 29, 30, 31] 600 (fun v12 =>
        k (10 + v12) w2))
      )))))
    ))))
  ))
def wp_X1_isPerson (w : Wd) (a0 : Nat) (a1 : Int32) (k : Int32 → Wd → Prop) : Prop :=
  wgF w (some a0) [21] 107 (fun v1 =>
  wp_X0_isIn w a1 0 (v1 - 1) (fun v2 w3 =>
  (narrow .boolean (.int v2) = .int v2) ∧ k v2 w3))
def wb_X0_show_30 (k : Int32 → Wd → Prop) (w : Wd) (a0 : Nat) (l1 : Int32) (l2 : Int32) : Prop :=
    wgG w (some a0) [20] 8 (fun v5 =>
    wldQ w v5 8 l1 (fun v6 =>
    if l2 = (-1) then (
      wpG w v6 [23] 300 none (fun w11 =>
      k 1 w11)
    ) else (
      wgG w (some a0) [20] 0 (fun v7 =>
      wgG w v7 [21] 101 (fun v8 =>
      wldQ w v8 6 l2 (fun v9 =>
      wpG w v6 [23] 300 v9 (fun w10 =>
      k 1 w10))))
    )))
def wp_X0_show (w : Wd) (a0 : Nat) (a1 : Int32) (a2 : Int32) (k : Int32 → Wd → Prop) : Prop :=
  wp_X0_isShelf w a1 (fun v1 w2 =>
  if v1 = 0 then (
    wob w2 a0 [20] ∧
    wp_X0_no w2 a0 (-2) (fun v3 w4 =>
    k v3 w4)
  ) else (
    if a2 = (-1) then (
      wb_X0_show_30 k w2 a0 a1 a2
    ) else (
      wgG w2 (some a0) [20] 0 (fun v12 =>
      wnn v12 (fun b15 =>
      wob w2 b15 [21] ∧
      wp_X1_isPerson w2 b15 a2 (fun v13 w14 =>
      if v13 = 0 then (
        wob w14 a0 [20] ∧
        wp_X0_no w14 a0 (-2) (fun v16 w17 =>
        k v16 w17)
      ) else (
        wb_X0_show_30 k w14 a0 a1 a2
      ))))
    )
  ))
def wp_X2_begins (w : Wd) (a0 : Nat) (a1 : Int32) (a2 : Int32) (k : Option Nat → Wd → Prop) : Prop :=
  wpF w (some a0) [22] 200 a1 (fun w1 =>
  wpF w1 (some a0) [22] 207 a1 (fun w2 =>
  wpF w2 (some a0) [22] 201 a2 (fun w3 =>
  wpF w3 (some a0) [22] 202 0 (fun w4 =>
  wpF w4 (some a0) [22] 203 (-1) (fun w5 =>
  wpF w5 (some a0) [22] 204 0 (fun w6 =>
  wpF w6 (some a0) [22] 205 0 (fun w7 =>
  wpF w7 (some a0) [22] 206 (-1) (fun w8 =>
  k (some a0) w8))))))))
def wp_X6_by (w : Wd) (a0 : Nat) (a1 : Option Nat) (a2 : Option Nat) (a3 : Int32) (a4 : Int32) (k : Int32 → Wd → Prop) : Prop :=
  k a4 w
def wp_X7_by (w : Wd) (a0 : Nat) (a1 : Option Nat) (a2 : Option Nat) (a3 : Int32) (a4 : Int32) (k : Int32 → Wd → Prop) : Prop :=
  wgG w a1 [21] 105 (fun v1 =>
  wld w v1 0 1 (fun v2 =>
  k v2 w))
def wp_X8_doubts (w : Wd) (a0 : Nat) (a1 : Option Nat) (a2 : Option Nat) (k : Int32 → Wd → Prop) : Prop :=
  wgF w a2 [22] 202 (fun v1 =>
  if (v1 - v1 / 2 * 2) = 1 then (
    k 1 w
  ) else (
    k 0 w
  ))
def wp_X1_ahead (w : Wd) (a0 : Nat) (a1 : Int32) (a2 : Int32) (k : Int32 → Wd → Prop) : Prop :=
  wld w (wk w 0) 0 a2 (fun v1 =>
  wld w (wk w 1) 0 a2 (fun v2 =>
  wgF w (some a0) [21] 106 (fun v3 =>
  wp_X0_isIn w ((a1 / 10) + v1) 0 (v3 - 1) (fun v4 w5 =>
  if v4 = 0 then (
    k (-1) w5
  ) else (
    wgF w5 (some a0) [21] 106 (fun v6 =>
    wp_X0_isIn w5 ((a1 - a1 / 10 * 10) + v2) 0 (v6 - 1) (fun v7 w8 =>
    if v7 = 0 then (
      k (-1) w8
    ) else (
      k ((10 * ((a1 / 10) + v1)) + ((a1 - a1 / 10 * 10) + v2)) w8
    )))
  )))))
def wp_X0_has (w : Wd) (a0 : Int32) (a1 : Int32) (k : Int32 → Wd → Prop) : Prop :=
  if ((a0 >>> (a1 &&& 31)) &&& 1) = 1 then (
    k 1 w
  ) else (
    k 0 w
  )
def wp_X1_isPond (w : Wd) (a0 : Nat) (a1 : Int32) (k : Int32 → Wd → Prop) : Prop :=
  wgG w (some a0) [21] 100 (fun v1 =>
  wld w v1 0 (a1 / 10) (fun v2 =>
  wp_X0_has w v2 (a1 - a1 / 10 * 10) (fun v3 w4 =>
  (narrow .boolean (.int v3) = .int v3) ∧ k v3 w4)))
def wb_X1_isByPond_4 (k : Int32 → Wd → Prop) (L4 : Wd → Nat → Int32 → Int32 → Int32 → Prop) (w : Wd) (a0 : Nat) (l1 : Int32) (l2 : Int32) (l3 : Int32) : Prop :=
    if (4 : Int32) ≤ l3 then (
      (narrow .boolean (.int l2) = .int l2) ∧ k l2 w
    ) else (
      wob w a0 [21] ∧
      wp_X1_ahead w a0 l1 l3 (fun v1 w2 =>
      if v1 = (-1) then (
        L4 w2 a0 l1 (l2 ||| 0) (l3 + 1)
      ) else (
        wob w2 a0 [21] ∧
        wp_X1_isPond w2 a0 v1 (fun v3 w4 =>
        if v3 = 0 then (
          L4 w4 a0 l1 (l2 ||| 0) (l3 + 1)
        ) else (
          L4 w4 a0 l1 (l2 ||| 1) (l3 + 1)
        ))
      ))
    )
def wl_X1_isByPond_4 (k : Int32 → Wd → Prop) (n : Nat) : Wd → Nat → Int32 → Int32 → Int32 → Prop := Nat.rec (motive := fun _ => Wd → Nat → Int32 → Int32 → Int32 → Prop) (fun _ _ _ _ _ => False) (fun _ L => wb_X1_isByPond_4 k L) n
theorem wl_X1_isByPond_4_s (k : Int32 → Wd → Prop) (n : Nat) : wl_X1_isByPond_4 k (n + 1) = wb_X1_isByPond_4 k (wl_X1_isByPond_4 k n) := rfl
theorem wl_X1_isByPond_4_0 (k : Int32 → Wd → Prop) : wl_X1_isByPond_4 k 0 = fun _ _ _ _ _ => False := rfl
def wp_X1_isByPond (w : Wd) (a0 : Nat) (a1 : Int32) (k : Int32 → Wd → Prop) : Prop :=
  wl_X1_isByPond_4 k FU w a0 a1 0 0
def wp_X10_doubts (w : Wd) (a0 : Nat) (a1 : Option Nat) (a2 : Option Nat) (k : Int32 → Wd → Prop) : Prop :=
  wgF w a2 [22] 200 (fun v1 =>
  wnn a1 (fun b4 =>
  wob w b4 [21] ∧
  wp_X1_isByPond w b4 v1 (fun v2 w3 =>
  (narrow .boolean (.int v2) = .int v2) ∧ k v2 w3)))
def wd_doubts (w : Wd) (b : Nat) (a1 : Option Nat) (a2 : Option Nat) (k : Int32 → Wd → Prop) : Prop :=
  wob w b [28, 30] ∧
  (wob w b [28] → wp_X8_doubts w b a1 a2 k) ∧
  (wob w b [30] → wp_X10_doubts w b a1 a2 k)
def wp_X8_by (w : Wd) (a0 : Nat) (a1 : Option Nat) (a2 : Option Nat) (a3 : Int32) (a4 : Int32) (k : Int32 → Wd → Prop) : Prop :=
  wob w a0 [28, 30] ∧
  wp_X6_by w a0 a1 a2 a3 a4 (fun v1 w2 =>
  wd_doubts w2 a0 a1 a2 (fun v3 w4 =>
  if v3 = 0 then (
    k v1 w4
  ) else (
    k (1 - v1) w4
  )))
def wp_X9_by (w : Wd) (a0 : Nat) (a1 : Option Nat) (a2 : Option Nat) (a3 : Int32) (a4 : Int32) (k : Int32 → Wd → Prop) : Prop :=
  wgG w a1 [21] 104 (fun v1 =>
  wgF w (some a0) [29] 600 (fun v2 =>
  wld w v1 0 v2 (fun v3 =>
  k v3 w)))
def wp_X2_isAfterSame (w : Wd) (a0 : Nat) (a1 : Int32) (k : Int32 → Wd → Prop) : Prop :=
  wgF w (some a0) [22] 203 (fun v1 =>
  if v1 = a1 then (
    k 1 w
  ) else (
    k 0 w
  ))
def wp_X2_by (w : Wd) (a0 : Nat) (k : Int32 → Wd → Prop) : Prop :=
  wgF w (some a0) [22] 204 (fun v1 =>
  k v1 w)
def wp_X11_by (w : Wd) (a0 : Nat) (a1 : Option Nat) (a2 : Option Nat) (a3 : Int32) (a4 : Int32) (k : Int32 → Wd → Prop) : Prop :=
  wgF w a2 [22] 202 (fun v1 =>
  if v1 = 0 then (
    wob w a0 [31] ∧
    wp_X6_by w a0 a1 a2 a3 a4 (fun v9 w10 =>
    k v9 w10)
  ) else (
    wnn a2 (fun b4 =>
    wob w b4 [22] ∧
    wp_X2_isAfterSame w b4 a3 (fun v2 w3 =>
    if v2 = 0 then (
      wob w3 b4 [22] ∧
      wp_X2_by w3 b4 (fun v5 w6 =>
      k v5 w6)
    ) else (
      wob w3 b4 [22] ∧
      wp_X2_by w3 b4 (fun v7 w8 =>
      k (1 - v7) w8)
    )))
  ))
def wd_by (w : Wd) (b : Nat) (a1 : Option Nat) (a2 : Option Nat) (a3 : Int32) (a4 : Int32) (k : Int32 → Wd → Prop) : Prop :=
  wob w b [26, 27, 28, 29, 30, 31] ∧
  (wob w b [26] → wp_X6_by w b a1 a2 a3 a4 k) ∧
  (wob w b [27] → wp_X7_by w b a1 a2 a3 a4 k) ∧
  (wob w b [28] → wp_X8_by w b a1 a2 a3 a4 k) ∧
  (wob w b [29] → wp_X9_by w b a1 a2 a3 a4 k) ∧
  (wob w b [30] → wp_X8_by w b a1 a2 a3 a4 k) ∧
  (wob w b [31] → wp_X11_by w b a1 a2 a3 a4 k)
def wb_X2_goes_179 (k : Wd → Prop) (w : Wd) (a0 : Nat) : Prop :=
    wgF w (some a0) [22] 205 (fun v5 =>
    wpF w (some a0) [22] 205 (v5 + 1) (fun w6 =>
    k w6))
def wb_X2_goes_158 (k : Wd → Prop) (w : Wd) (a0 : Nat) (l3 : Int32) (s0 : Option Nat) (s1 : Int32) (s2 : Int32) : Prop :=
    wpF w s0 [22] 201 ((s1 + s2) - (s1 + s2) / 4 * 4) (fun w13 =>
    wpF w13 (some a0) [22] 203 l3 (fun w14 =>
    wgF w14 (some a0) [22] 202 (fun v15 =>
    wpF w14 (some a0) [22] 202 (v15 + 1) (fun w16 =>
    wb_X2_goes_179 k w16 a0))))
def wb_X2_goes_141 (k : Wd → Prop) (w : Wd) (a0 : Nat) (l3 : Int32) (s0 : Int32) : Prop :=
    wgF w (some a0) [22] 201 (fun v12 =>
    if s0 = 0 then (
      wb_X2_goes_158 k w a0 l3 (some a0) v12 3
    ) else (
      wb_X2_goes_158 k w a0 l3 (some a0) v12 1
    ))
def wb_X2_goes_133 (k : Wd → Prop) (w : Wd) (a0 : Nat) (l3 : Int32) (s0 : Int32) (s1 : Int32) : Prop :=
    if s0 = s1 then (
      wb_X2_goes_141 k w a0 l3 1
    ) else (
      wb_X2_goes_141 k w a0 l3 0
    )
def wb_X2_goes_120 (k : Wd → Prop) (w : Wd) (a0 : Nat) (l3 : Int32) (s0 : Int32) : Prop :=
    wgF w (some a0) [22] 204 (fun v11 =>
    if v11 = 1 then (
      wb_X2_goes_133 k w a0 l3 s0 1
    ) else (
      wb_X2_goes_133 k w a0 l3 s0 0
    ))
def wb_X2_goes_97 (k : Wd → Prop) (w : Wd) (a0 : Nat) (l1 : Option Nat) (l2 : Option Nat) (l3 : Int32) (l4 : Int32) : Prop :=
    wnn l2 (fun b9 =>
    wd_by w b9 l1 (some a0) l3 l4 (fun v7 w8 =>
    wpF w8 (some a0) [22] 204 v7 (fun w10 =>
    if l3 = 1 then (
      wb_X2_goes_120 k w10 a0 l3 1
    ) else (
      wb_X2_goes_120 k w10 a0 l3 0
    ))))
def wb_X2_goes_79 (k : Wd → Prop) (w : Wd) (a0 : Nat) (l1 : Option Nat) (l2 : Option Nat) (l3 : Int32) (l4 : Int32) : Prop :=
    wgF w (some a0) [22] 206 (fun v4 =>
    if v4 = (-1) then (
      if l3 = 1 then (
        wb_X2_goes_97 k w a0 l1 l2 l3 l4
      ) else (
        if l3 = 2 then (
          wb_X2_goes_97 k w a0 l1 l2 l3 l4
        ) else (
          wb_X2_goes_179 k w a0
        )
      )
    ) else (
      wb_X2_goes_179 k w a0
    ))
def wb_X2_goes_73 (k : Wd → Prop) (w : Wd) (a0 : Nat) (s0 : Option Nat) (s1 : Int32) : Prop :=
    wpF w s0 [22] 206 s1 (fun w27 =>
    wb_X2_goes_179 k w27 a0)
def wb_X2_goes_50 (k : Wd → Prop) (w : Wd) (a0 : Nat) (l1 : Option Nat) (s0 : Option Nat) (s1 : Int32) : Prop :=
    wpF w s0 [22] 200 s1 (fun w22 =>
    wgF w22 (some a0) [22] 200 (fun v23 =>
    wnn l1 (fun b26 =>
    wob w22 b26 [21] ∧
    wp_X1_isPond w22 b26 v23 (fun v24 w25 =>
    if v24 = 0 then (
      wb_X2_goes_73 k w25 a0 (some a0) (-1)
    ) else (
      wgF w25 (some a0) [22] 205 (fun v28 =>
      wb_X2_goes_73 k w25 a0 (some a0) v28)
    )))))
def wp_X2_goes (w : Wd) (a0 : Nat) (a1 : Option Nat) (a2 : Option Nat) (a3 : Int32) (a4 : Int32) (k : Wd → Prop) : Prop :=
  wgF w (some a0) [22] 200 (fun v1 =>
  wpF w (some a0) [22] 207 v1 (fun w2 =>
  wgF w2 (some a0) [22] 206 (fun v3 =>
  if v3 = (-1) then (
    if a3 = 0 then (
      wgF w2 (some a0) [22] 200 (fun v17 =>
      wgF w2 (some a0) [22] 201 (fun v18 =>
      wnn a1 (fun b21 =>
      wob w2 b21 [21] ∧
      wp_X1_ahead w2 b21 v17 v18 (fun v19 w20 =>
      if v19 = (-1) then (
        wgF w20 (some a0) [22] 200 (fun v29 =>
        wb_X2_goes_50 k w20 a0 (some b21) (some a0) v29)
      ) else (
        wb_X2_goes_50 k w20 a0 (some b21) (some a0) v19
      )))))
    ) else (
      wb_X2_goes_79 k w2 a0 a1 a2 a3 a4
    )
  ) else (
    wb_X2_goes_79 k w2 a0 a1 a2 a3 a4
  ))))
def wp_X0_leftOf (w : Wd) (a0 : Nat) (a1 : Option Nat) (k : Int32 → Wd → Prop) : Prop :=
  wgG w (some a0) [20] 2 (fun v1 =>
  wgG w (some a0) [20] 0 (fun v2 =>
  wgG w v2 [21] 102 (fun v3 =>
  wgF w a1 [26, 27, 28, 29, 30, 31] 600 (fun v4 =>
  wld w v3 0 v4 (fun v5 =>
  wgG w (some a0) [20] 0 (fun v6 =>
  wgG w v6 [21] 103 (fun v7 =>
  wgF w a1 [26, 27, 28, 29, 30, 31] 600 (fun v8 =>
  wld w v7 0 v8 (fun v9 =>
  wnn v1 (fun b12 =>
  wob w b12 [22] ∧
  wp_X2_begins w b12 v5 v9 (fun v10 w11 =>
  wgG w11 (some a0) [20] 0 (fun v13 =>
  wgG w11 (some a0) [20] 0 (fun v14 =>
  wgG w11 v14 [21] 105 (fun v15 =>
  wld w11 v15 0 0 (fun v16 =>
  wnn v10 (fun b18 =>
  wob w11 b18 [22] ∧
  wp_X2_goes w11 b18 v13 a1 1 v16 (fun w17 =>
  wgG w17 (some a0) [20] 2 (fun v19 =>
  wgF w17 v19 [22] 201 (fun v20 =>
  k v20 w17)))))))))))))))))))
def wp_X0_side (w : Wd) (a0 : Nat) (a1 : Int32) (k : Int32 → Wd → Prop) : Prop :=
  wgG w (some a0) [20] 0 (fun v1 =>
  wgF w v1 [21] 106 (fun v2 =>
  wp_X0_isIn w a1 v2 7 (fun v3 w4 =>
  if v3 = 0 then (
    wob w4 a0 [20] ∧
    wp_X0_no w4 a0 (-2) (fun v9 w10 =>
    k v9 w10)
  ) else (
    wgG w4 (some a0) [20] 0 (fun v5 =>
    wgF w4 v5 [21] 106 (fun v6 =>
    wgG w4 (some a0) [20] 0 (fun v7 =>
    wpF w4 v7 [21] 106 a1 (fun w8 =>
    k v6 w8))))
  ))))
def wp_X1_isCell (w : Wd) (a0 : Nat) (a1 : Int32) (k : Int32 → Wd → Prop) : Prop :=
  if a1 < 0 then (
    k 0 w
  ) else (
    wgF w (some a0) [21] 106 (fun v1 =>
    if v1 ≤ (a1 / 10) then (
      k 0 w
    ) else (
      wgF w (some a0) [21] 106 (fun v2 =>
      if v2 ≤ (a1 - a1 / 10 * 10) then (
        k 0 w
      ) else (
        k 1 w
      ))
    ))
  )
def wp_X1_pond (w : Wd) (a0 : Nat) (a1 : Int32) (a2 : Int32) (k : Wd → Prop) : Prop :=
  wgG w (some a0) [21] 100 (fun v1 =>
  if a2 = 0 then (
    wgG w (some a0) [21] 100 (fun v2 =>
    wld w v2 0 (a1 / 10) (fun v3 =>
    wst w v1 0 (a1 / 10) (v3 &&& ((1 <<< ((a1 - a1 / 10 * 10) &&& 31)) ^^^ (-1))) (fun w4 =>
    k w4)))
  ) else (
    wgG w (some a0) [21] 100 (fun v5 =>
    wld w v5 0 (a1 / 10) (fun v6 =>
    wst w v1 0 (a1 / 10) (v6 ||| (1 <<< ((a1 - a1 / 10 * 10) &&& 31))) (fun w7 =>
    k w7)))
  ))
def wb_X1_mayPond_4 (k : Int32 → Wd → Prop) (L4 : Wd → Nat → Int32 → Int32 → Int32 → Prop) (w : Wd) (a0 : Nat) (l1 : Int32) (l2 : Int32) (l3 : Int32) : Prop :=
    wgF w (some a0) [21] 107 (fun v1 =>
    if v1 ≤ l3 then (
      (narrow .boolean (.int l2) = .int l2) ∧ k l2 w
    ) else (
      wgG w (some a0) [21] 102 (fun v2 =>
      wld w v2 0 l3 (fun v3 =>
      if v3 = l1 then (
        L4 w a0 l1 (l2 &&& 0) (l3 + 1)
      ) else (
        L4 w a0 l1 (l2 &&& 1) (l3 + 1)
      )))
    ))
def wl_X1_mayPond_4 (k : Int32 → Wd → Prop) (n : Nat) : Wd → Nat → Int32 → Int32 → Int32 → Prop := Nat.rec (motive := fun _ => Wd → Nat → Int32 → Int32 → Int32 → Prop) (fun _ _ _ _ _ => False) (fun _ L => wb_X1_mayPond_4 k L) n
theorem wl_X1_mayPond_4_s (k : Int32 → Wd → Prop) (n : Nat) : wl_X1_mayPond_4 k (n + 1) = wb_X1_mayPond_4 k (wl_X1_mayPond_4 k n) := rfl
theorem wl_X1_mayPond_4_0 (k : Int32 → Wd → Prop) : wl_X1_mayPond_4 k 0 = fun _ _ _ _ _ => False := rfl
def wp_X1_mayPond (w : Wd) (a0 : Nat) (a1 : Int32) (k : Int32 → Wd → Prop) : Prop :=
  wl_X1_mayPond_4 k FU w a0 a1 1 0
def wb_X0_pond_56 (k : Int32 → Wd → Prop) (w : Wd) (a0 : Nat) (l1 : Int32) (l2 : Int32) (s0 : Int32) : Prop :=
    wgG w (some a0) [20] 0 (fun v9 =>
    wnn v9 (fun b11 =>
    wob w b11 [21] ∧
    wp_X1_pond w b11 l1 l2 (fun w10 =>
    k s0 w10)))
def wb_X0_pond_40 (k : Int32 → Wd → Prop) (w : Wd) (a0 : Nat) (l1 : Int32) (l2 : Int32) : Prop :=
    wgG w (some a0) [20] 0 (fun v5 =>
    wnn v5 (fun b8 =>
    wob w b8 [21] ∧
    wp_X1_isPond w b8 l1 (fun v6 w7 =>
    if v6 = 0 then (
      wb_X0_pond_56 k w7 a0 l1 l2 0
    ) else (
      wb_X0_pond_56 k w7 a0 l1 l2 1
    ))))
def wp_X0_pond (w : Wd) (a0 : Nat) (a1 : Int32) (a2 : Int32) (k : Int32 → Wd → Prop) : Prop :=
  wgG w (some a0) [20] 0 (fun v1 =>
  wnn v1 (fun b4 =>
  wob w b4 [21] ∧
  wp_X1_isCell w b4 a1 (fun v2 w3 =>
  if v2 = 0 then (
    wob w3 a0 [20] ∧
    wp_X0_no w3 a0 (-2) (fun v18 w19 =>
    k v18 w19)
  ) else (
    if a2 = 0 then (
      wb_X0_pond_40 k w3 a0 a1 a2
    ) else (
      wgG w3 (some a0) [20] 0 (fun v12 =>
      wnn v12 (fun b15 =>
      wob w3 b15 [21] ∧
      wp_X1_mayPond w3 b15 a1 (fun v13 w14 =>
      if v13 = 0 then (
        wob w14 a0 [20] ∧
        wp_X0_no w14 a0 (-5) (fun v16 w17 =>
        k v16 w17)
      ) else (
        wb_X0_pond_40 k w14 a0 a1 a2
      ))))
    )
  ))))
def wp_X0_isFaced (w : Wd) (a0 : Int32) (k : Int32 → Wd → Prop) : Prop :=
  wp_X0_isIn w a0 0 3 (fun v1 w2 =>
  (narrow .boolean (.int v1) = .int v1) ∧ k v1 w2)
def wp_X6_init (w : Wd) (a0 : Nat) (a1 : Int32) (a2 : Int32) (k : Wd → Prop) : Prop :=
  wpF w (some a0) [26, 27, 28, 29, 30, 31] 600 a1 (fun w1 =>
  wpF w1 (some a0) [26, 27, 28, 29, 30, 31] 601 a2 (fun w2 =>
  k w2))
def wp_X7_init (w : Wd) (a0 : Nat) (a1 : Int32) (a2 : Int32) (k : Wd → Prop) : Prop :=
  wp_X6_init w a0 a1 a2 (fun w1 =>
  k w1)
def wp_X8_init (w : Wd) (a0 : Nat) (a1 : Int32) (a2 : Int32) (k : Wd → Prop) : Prop :=
  wp_X6_init w a0 a1 a2 (fun w1 =>
  k w1)
def wp_X9_init (w : Wd) (a0 : Nat) (a1 : Int32) (a2 : Int32) (k : Wd → Prop) : Prop :=
  wp_X7_init w a0 a1 a2 (fun w1 =>
  k w1)
def wp_X10_init (w : Wd) (a0 : Nat) (a1 : Int32) (a2 : Int32) (k : Wd → Prop) : Prop :=
  wp_X8_init w a0 a1 a2 (fun w1 =>
  k w1)
def wp_X11_init (w : Wd) (a0 : Nat) (a1 : Int32) (a2 : Int32) (k : Wd → Prop) : Prop :=
  wp_X6_init w a0 a1 a2 (fun w1 =>
  k w1)
def wp_X0_made (w : Wd) (a0 : Int32) (a1 : Int32) (a2 : Int32) (k : Option Nat → Wd → Prop) : Prop :=
  if a0 = 0 then (
    wnew w 26 2 (fun n1 w2 =>
    wp_X6_init w2 n1 a1 a2 (fun w3 =>
    k (some n1) w3))
  ) else (
  if a0 = 1 then (
    wnew w 27 2 (fun n4 w5 =>
    wp_X7_init w5 n4 a1 a2 (fun w6 =>
    k (some n4) w6))
  ) else (
  if a0 = 2 then (
    wnew w 28 2 (fun n7 w8 =>
    wp_X8_init w8 n7 a1 a2 (fun w9 =>
    k (some n7) w9))
  ) else (
  if a0 = 3 then (
    wnew w 29 2 (fun n10 w11 =>
    wp_X9_init w11 n10 a1 a2 (fun w12 =>
    k (some n10) w12))
  ) else (
  if a0 = 4 then (
    wnew w 30 2 (fun n13 w14 =>
    wp_X10_init w14 n13 a1 a2 (fun w15 =>
    k (some n13) w15))
  ) else (
    wnew w 31 2 (fun n16 w17 =>
    wp_X11_init w17 n16 a1 a2 (fun w18 =>
    k (some n16) w18))
  )))))
def wp_X1_adds (w : Wd) (a0 : Nat) (a1 : Int32) (a2 : Int32) (a3 : Int32) (a4 : Int32) (k : Int32 → Wd → Prop) : Prop :=
  wgG w (some a0) [21] 101 (fun v1 =>
  wgF w (some a0) [21] 107 (fun v2 =>
  wgF w (some a0) [21] 107 (fun v3 =>
  wp_X0_made w a1 v3 a2 (fun v4 w5 =>
  wstQ w5 v1 6 [26, 27, 28, 29, 30, 31] v2 v4 (fun w6 =>
  wgG w6 (some a0) [21] 102 (fun v7 =>
  wgF w6 (some a0) [21] 107 (fun v8 =>
  wst w6 v7 0 v8 a3 (fun w9 =>
  wgG w9 (some a0) [21] 103 (fun v10 =>
  wgF w9 (some a0) [21] 107 (fun v11 =>
  wst w9 v10 0 v11 a4 (fun w12 =>
  wgG w12 (some a0) [21] 104 (fun v13 =>
  wgF w12 (some a0) [21] 107 (fun v14 =>
  wst w12 v13 0 v14 0 (fun w15 =>
  wgF w15 (some a0) [21] 107 (fun v16 =>
  wpF w15 (some a0) [21] 107 (v16 + 1) (fun w17 =>
  wgF w17 (some a0) [21] 107 (fun v18 =>
  k (v18 - 1) w17)))))))))))))))))
def wp_X0_person (w : Wd) (a0 : Nat) (a1 : Int32) (a2 : Int32) (a3 : Int32) (a4 : Int32) (k : Int32 → Wd → Prop) : Prop :=
  wp_X0_isIn w a1 0 5 (fun v1 w2 =>
  if v1 = 0 then (
    wob w2 a0 [20] ∧
    wp_X0_no w2 a0 (-2) (fun v3 w4 =>
    k v3 w4)
  ) else (
    wp_X0_isIn w2 a2 0 9 (fun v5 w6 =>
    if v5 = 0 then (
      wob w6 a0 [20] ∧
      wp_X0_no w6 a0 (-2) (fun v7 w8 =>
      k v7 w8)
    ) else (
      wgG w6 (some a0) [20] 0 (fun v9 =>
      wnn v9 (fun b12 =>
      wob w6 b12 [21] ∧
      wp_X1_isCell w6 b12 a3 (fun v10 w11 =>
      if v10 = 0 then (
        wob w11 a0 [20] ∧
        wp_X0_no w11 a0 (-2) (fun v13 w14 =>
        k v13 w14)
      ) else (
        wp_X0_isFaced w11 a4 (fun v15 w16 =>
        if v15 = 0 then (
          wob w16 a0 [20] ∧
          wp_X0_no w16 a0 (-2) (fun v31 w32 =>
          k v31 w32)
        ) else (
          wgG w16 (some a0) [20] 0 (fun v17 =>
          wnn v17 (fun b20 =>
          wob w16 b20 [21] ∧
          wp_X1_isPond w16 b20 a3 (fun v18 w19 =>
          if v18 = 0 then (
            wgG w19 (some a0) [20] 0 (fun v21 =>
            wgF w19 v21 [21] 107 (fun v22 =>
            if v22 = 8 then (
              wob w19 a0 [20] ∧
              wp_X0_no w19 a0 (-6) (fun v27 w28 =>
              k v27 w28)
            ) else (
              wgG w19 (some a0) [20] 0 (fun v23 =>
              wnn v23 (fun b26 =>
              wob w19 b26 [21] ∧
              wp_X1_adds w19 b26 a1 a2 a3 a4 (fun v24 w25 =>
              k v24 w25)))
            )))
          ) else (
            wob w19 a0 [20] ∧
            wp_X0_no w19 a0 (-5) (fun v29 w30 =>
            k v29 w30)
          ))))
        ))
      ))))
    ))
  ))
def wb_X0_tell_22 (k : Int32 → Wd → Prop) (w : Wd) (a0 : Nat) (l1 : Int32) (l2 : Int32) (s0 : Int32) (s1 : Int32) (s2 : Int32) : Prop :=
    wp_X0_isIn w s0 s1 s2 (fun v5 w6 =>
    if v5 = 0 then (
      wob w6 a0 [20] ∧
      wp_X0_no w6 a0 (-2) (fun v13 w14 =>
      k v13 w14)
    ) else (
      wgG w6 (some a0) [20] 0 (fun v7 =>
      wgG w6 v7 [21] 105 (fun v8 =>
      wld w6 v8 0 l1 (fun v9 =>
      wgG w6 (some a0) [20] 0 (fun v10 =>
      wgG w6 v10 [21] 105 (fun v11 =>
      wst w6 v11 0 l1 l2 (fun w12 =>
      k v9 w12))))))
    ))
def wp_X0_tell (w : Wd) (a0 : Nat) (a1 : Int32) (a2 : Int32) (k : Int32 → Wd → Prop) : Prop :=
  wp_X0_isIn w a1 0 2 (fun v1 w2 =>
  if v1 = 0 then (
    wob w2 a0 [20] ∧
    wp_X0_no w2 a0 (-2) (fun v3 w4 =>
    k v3 w4)
  ) else (
    if a1 = 2 then (
      wb_X0_tell_22 k w2 a0 a1 a2 a2 0 12
    ) else (
      wb_X0_tell_22 k w2 a0 a1 a2 a2 0 1
    )
  ))
def wp_X0_isFor (w : Wd) (a0 : Nat) (a1 : Int32) (a2 : Int32) (k : Int32 → Wd → Prop) : Prop :=
  wgG w (some a0) [20] 0 (fun v1 =>
  wnn v1 (fun b4 =>
  wob w b4 [21] ∧
  wp_X1_isPerson w b4 a1 (fun v2 w3 =>
  if v2 = 0 then (
    wob w3 a0 [20] ∧
    wp_X0_no w3 a0 (-2) (fun v5 w6 =>
    k v5 w6)
  ) else (
    wp_X0_isIn w3 a2 0 1 (fun v7 w8 =>
    if v7 = 0 then (
      wob w8 a0 [20] ∧
      wp_X0_no w8 a0 (-2) (fun v15 w16 =>
      k v15 w16)
    ) else (
      wgG w8 (some a0) [20] 0 (fun v9 =>
      wgG w8 v9 [21] 104 (fun v10 =>
      wld w8 v10 0 a1 (fun v11 =>
      wgG w8 (some a0) [20] 0 (fun v12 =>
      wgG w8 v12 [21] 104 (fun v13 =>
      wst w8 v13 0 a1 a2 (fun w14 =>
      k v11 w14))))))
    ))
  ))))
def wp_X0_put (w : Wd) (a0 : Nat) (a1 : Int32) (a2 : Int32) (a3 : Int32) (k : Int32 → Wd → Prop) : Prop :=
  wgG w (some a0) [20] 0 (fun v1 =>
  wnn v1 (fun b4 =>
  wob w b4 [21] ∧
  wp_X1_isPerson w b4 a1 (fun v2 w3 =>
  if v2 = 0 then (
    wob w3 a0 [20] ∧
    wp_X0_no w3 a0 (-2) (fun v5 w6 =>
    k v5 w6)
  ) else (
    wgG w3 (some a0) [20] 0 (fun v7 =>
    wnn v7 (fun b10 =>
    wob w3 b10 [21] ∧
    wp_X1_isCell w3 b10 a2 (fun v8 w9 =>
    if v8 = 0 then (
      wob w9 a0 [20] ∧
      wp_X0_no w9 a0 (-2) (fun v11 w12 =>
      k v11 w12)
    ) else (
      wp_X0_isFaced w9 a3 (fun v13 w14 =>
      if v13 = 0 then (
        wob w14 a0 [20] ∧
        wp_X0_no w14 a0 (-2) (fun v30 w31 =>
        k v30 w31)
      ) else (
        wgG w14 (some a0) [20] 0 (fun v15 =>
        wnn v15 (fun b18 =>
        wob w14 b18 [21] ∧
        wp_X1_isPond w14 b18 a2 (fun v16 w17 =>
        if v16 = 0 then (
          wgG w17 (some a0) [20] 0 (fun v19 =>
          wgG w17 v19 [21] 102 (fun v20 =>
          wld w17 v20 0 a1 (fun v21 =>
          wgG w17 (some a0) [20] 0 (fun v22 =>
          wgG w17 v22 [21] 102 (fun v23 =>
          wst w17 v23 0 a1 a2 (fun w24 =>
          wgG w24 (some a0) [20] 0 (fun v25 =>
          wgG w24 v25 [21] 103 (fun v26 =>
          wst w24 v26 0 a1 a3 (fun w27 =>
          k v21 w27)))))))))
        ) else (
          wob w17 a0 [20] ∧
          wp_X0_no w17 a0 (-5) (fun v28 w29 =>
          k v28 w29)
        ))))
      ))
    ))))
  ))))
def wp_X0_feed (w : Wd) (a0 : Nat) (a1 : Int32) (k : Int32 → Wd → Prop) : Prop :=
  wp_X0_isIn w a1 0 255 (fun v1 w2 =>
  if v1 = 0 then (
    wob w2 a0 [20] ∧
    wp_X0_no w2 a0 (-2) (fun v12 w13 =>
    k v12 w13)
  ) else (
    wgF w2 (some a0) [20] 10 (fun v3 =>
    if v3 = 250 then (
      wob w2 a0 [20] ∧
      wp_X0_no w2 a0 (-6) (fun v10 w11 =>
      k v10 w11)
    ) else (
      wgG w2 (some a0) [20] 9 (fun v4 =>
      wgF w2 (some a0) [20] 10 (fun v5 =>
      wst w2 v4 0 v5 a1 (fun w6 =>
      wgF w6 (some a0) [20] 10 (fun v7 =>
      wpF w6 (some a0) [20] 10 (v7 + 1) (fun w8 =>
      wgF w8 (some a0) [20] 10 (fun v9 =>
      k v9 w8))))))
    ))
  ))
def wp_X0_wipe (w : Wd) (a0 : Nat) (k : Int32 → Wd → Prop) : Prop :=
  wgF w (some a0) [20] 10 (fun v1 =>
  wpF w (some a0) [20] 10 0 (fun w2 =>
  k v1 w2))
def wp_X1_copied (w : Wd) (a0 : Nat) (k : Option Nat → Wd → Prop) : Prop :=
  wnew w 21 11 (fun n1 w2 =>
  wp_X1_init w2 n1 (fun w3 =>
  wgG w3 (some a0) [21] 100 (fun v4 =>
  wgG w3 (some n1) [21] 100 (fun v5 =>
  wcp w3 v4 0 v5 0 7 0 [] (fun w6 =>
  wgG w6 (some a0) [21] 101 (fun v7 =>
  wgG w6 (some n1) [21] 101 (fun v8 =>
  wcp w6 v7 0 v8 0 8 6 [26, 27, 28, 29, 30, 31] (fun w9 =>
  wgG w9 (some a0) [21] 102 (fun v10 =>
  wgG w9 (some n1) [21] 102 (fun v11 =>
  wcp w9 v10 0 v11 0 8 0 [] (fun w12 =>
  wgG w12 (some a0) [21] 103 (fun v13 =>
  wgG w12 (some n1) [21] 103 (fun v14 =>
  wcp w12 v13 0 v14 0 8 0 [] (fun w15 =>
  wgG w15 (some a0) [21] 104 (fun v16 =>
  wgG w15 (some n1) [21] 104 (fun v17 =>
  wcp w15 v16 0 v17 0 8 0 [] (fun w18 =>
  wgG w18 (some a0) [21] 105 (fun v19 =>
  wgG w18 (some n1) [21] 105 (fun v20 =>
  wgG w18 (some a0) [21] 105 (fun v21 =>
  wln w18 v21 (fun v22 =>
  wcp w18 v19 0 v20 0 v22 0 [] (fun w23 =>
  wgF w23 (some a0) [21] 106 (fun v24 =>
  wpF w23 (some n1) [21] 106 v24 (fun w25 =>
  wgF w25 (some a0) [21] 107 (fun v26 =>
  wpF w25 (some n1) [21] 107 v26 (fun w27 =>
  wgF w27 (some a0) [21] 108 (fun v28 =>
  wpF w27 (some n1) [21] 108 v28 (fun w29 =>
  wgF w29 (some a0) [21] 109 (fun v30 =>
  wpF w29 (some n1) [21] 109 v30 (fun w31 =>
  wgF w31 (some a0) [21] 110 (fun v32 =>
  wpF w31 (some n1) [21] 110 v32 (fun w33 =>
  k (some n1) w33))))))))))))))))))))))))))))))))
def wp_X12_init (w : Wd) (a0 : Nat) (a1 : Option Nat) (a2 : Int32) (a3 : Option Nat) (k : Wd → Prop) : Prop :=
  wpG w (some a0) [32] 1200 a1 (fun w1 =>
  wpF w1 (some a0) [32] 1201 a2 (fun w2 =>
  wpG w2 (some a0) [32] 1202 a3 (fun w3 =>
  k w3)))
def wp_X12_isIn (w : Wd) (a0 : Nat) (a1 : Int32) (a2 : Int32) (k : Int32 → Wd → Prop) : Prop :=
  wgF w (some a0) [32] 1203 (fun v1 =>
  wgF w (some a0) [32] 1201 (fun v2 =>
  if v2 ≤ v1 then (
    k 0 w
  ) else (
    wgG w (some a0) [32] 1200 (fun v3 =>
    wgF w (some a0) [32] 1203 (fun v4 =>
    wld w v3 0 v4 (fun v5 =>
    if v5 < a1 then (
      k 0 w
    ) else (
      wgG w (some a0) [32] 1200 (fun v6 =>
      wgF w (some a0) [32] 1203 (fun v7 =>
      wld w v6 0 v7 (fun v8 =>
      if a2 < v8 then (
        k 0 w
      ) else (
        k 1 w
      ))))
    ))))
  )))
def wp_J14_min (w : Wd) (a0 : Int32) (a1 : Int32) (k : Int32 → Wd → Prop) : Prop :=
  if a1 < a0 then (
    k a1 w
  ) else (
    k a0 w
  )
def wp_J10_init (w : Wd) (a0 : Nat) (a1 : Int32) (k : Wd → Prop) : Prop :=
  if (1 : Int32) = 0 then (
    False
  ) else (
    wna w 1 a1 16 (fun n1 w2 =>
    wpG w2 (some a0) [35] 1500 (some n1) (fun w3 =>
    wpF w3 (some a0) [35] 1501 0 (fun w4 =>
    k w4)))
  )
def wp_J11_init (w : Wd) (a0 : Nat) (k : Wd → Prop) : Prop :=
  wp_J10_init w a0 16 (fun w1 =>
  k w1)
def wp_J10_getValue (w : Wd) (a0 : Nat) (k : Option Nat → Wd → Prop) : Prop :=
  wgG w (some a0) [35] 1500 (fun v1 =>
  k v1 w)
def wp_J10_length (w : Wd) (a0 : Nat) (k : Int32 → Wd → Prop) : Prop :=
  wgF w (some a0) [35] 1503 (fun v1 =>
  k v1 w)
def wp_J11_length (w : Wd) (a0 : Nat) (k : Int32 → Wd → Prop) : Prop :=
  wob w a0 [35] ∧
  wp_J10_length w a0 (fun v1 w2 =>
  k v1 w2)
def wp_J10_isLatin1 (w : Wd) (a0 : Nat) (k : Int32 → Wd → Prop) : Prop :=
  if (1 : Int32) = 0 then (
    k 0 w
  ) else (
    wgF w (some a0) [35] 1501 (fun v1 =>
    if v1 = 0 then (
      k 1 w
    ) else (
      k 0 w
    ))
  )
def wp_J15_checkLength (w : Wd) (a0 : Int32) (a1 : Int32) (k : Wd → Prop) : Prop :=
  if a0 ≤ a1 then (
    k w
  ) else (
    False
  )
def wp_J15_copyOfRangeByte (w : Wd) (a0 : Option Nat) (a1 : Int32) (a2 : Int32) (k : Option Nat → Wd → Prop) : Prop :=
  wp_J15_checkLength w a1 a2 (fun w1 =>
  wna w1 1 (a2 - a1) 70 (fun n2 w3 =>
  wln w3 a0 (fun v4 =>
  wp_J14_min w3 (v4 - a1) (a2 - a1) (fun v5 w6 =>
  wcp w6 a0 a1 (some n2) 0 v5 1 [] (fun w7 =>
  k (some n2) w7)))))
def wp_J15_copyOfRange (w : Wd) (a0 : Option Nat) (a1 : Int32) (a2 : Int32) (k : Option Nat → Wd → Prop) : Prop :=
  if a1 = 0 then (
    wln w a0 (fun v3 =>
    if a2 = v3 then (
      wcln w a0 70 (fun n4 w5 =>
      wcc w5 (some n4) [1] (
      k (some n4) w5))
    ) else (
      wp_J15_copyOfRangeByte w a0 a1 a2 (fun v6 w7 =>
      k v6 w7)
    ))
  ) else (
    wp_J15_copyOfRangeByte w a0 a1 a2 (fun v1 w2 =>
    k v1 w2)
  )
def wp_J4_init_2 (w : Wd) (a0 : Nat) (a1 : Option Nat) (a2 : Option Nat) (k : Wd → Prop) : Prop :=
  wnn a1 (fun b3 =>
  wob w b3 [35] ∧
  wp_J10_getValue w b3 (fun v1 w2 =>
  wob w2 b3 [35] ∧
  wp_J11_length w2 b3 (fun v4 w5 =>
  wob w5 b3 [35] ∧
  wp_J10_isLatin1 w5 b3 (fun v6 w7 =>
  if v6 = 0 then (
    False
  ) else (
    wpF w7 (some a0) [34] 1401 0 (fun w8 =>
    wp_J15_copyOfRange w8 v1 0 v4 (fun v9 w10 =>
    wpG w10 (some a0) [34] 1400 v9 (fun w11 =>
    k w11)))
  )))))
def wp_J4_init (w : Wd) (a0 : Nat) (a1 : Option Nat) (k : Wd → Prop) : Prop :=
  wp_J4_init_2 w a0 a1 none (fun w1 =>
  k w1)
def wp_J11_toString (w : Wd) (a0 : Nat) (k : Option Nat → Wd → Prop) : Prop :=
  wnew w 34 4 (fun n1 w2 =>
  wp_J4_init w2 n1 (some a0) (fun w3 =>
  k (some n1) w3))
abbrev yJ10_ensureCapacityInternalng : MethodName := yJ10_ensureCapacityInternal
abbrev cJ10_ensureCapacityInternalng : ByteArray := cJ10_ensureCapacityInternal
def wp_J10_ensureCapacityInternalng (w : Wd) (a0 : Nat) (a1 : Int32) (k : Wd → Prop) : Prop :=
  wgG w (some a0) [35] 1500 (fun v1 =>
  wln w v1 (fun v2 =>
  wgF w (some a0) [35] 1501 (fun v3 =>
  if (a1 - (v2 >>> (v3 &&& 31))) ≤ 0 then (
    k w
  ) else (
    False
  ))))
def wp_J16_canEncode (w : Wd) (a0 : Int32) (k : Int32 → Wd → Prop) : Prop :=
  if (255 : Int32) < a0 then (
    k 0 w
  ) else (
    k 1 w
  )
abbrev yJ10_appendng : MethodName := yJ10_append
abbrev cJ10_appendng : ByteArray := cJ10_append
def wb_J10_appendng_45 (k : Option Nat → Wd → Prop) (w : Wd) (a0 : Nat) (l1 : Int32) : Prop :=
    False
def wp_J10_appendng (w : Wd) (a0 : Nat) (a1 : Int32) (k : Option Nat → Wd → Prop) : Prop :=
  wgF w (some a0) [35] 1503 (fun v1 =>
  wob w a0 [35] ∧
  wp_J10_ensureCapacityInternalng w a0 (v1 + 1) (fun w2 =>
  wob w2 a0 [35] ∧
  wp_J10_isLatin1 w2 a0 (fun v3 w4 =>
  if v3 = 0 then (
    wb_J10_appendng_45 k w4 a0 a1
  ) else (
    wp_J16_canEncode w4 a1 (fun v5 w6 =>
    if v5 = 0 then (
      wb_J10_appendng_45 k w6 a0 a1
    ) else (
      wgG w6 (some a0) [35] 1500 (fun v7 =>
      wgF w6 (some a0) [35] 1503 (fun v8 =>
      wpF w6 (some a0) [35] 1503 (v8 + 1) (fun w9 =>
      wst w9 v7 1 v8 (vp_nar .byte (a1.toInt8.toInt32)) (fun w10 =>
      k (some a0) w10))))
    ))
  ))))
abbrev yJ11_appendng : MethodName := yJ11_append
abbrev cJ11_appendng : ByteArray := cJ11_append
def wp_J11_appendng (w : Wd) (a0 : Nat) (a1 : Int32) (k : Option Nat → Wd → Prop) : Prop :=
  wob w a0 [35] ∧
  wp_J10_appendng w a0 a1 (fun v1 w2 =>
  k (some a0) w2)
def wp_J13_newLength (w : Wd) (a0 : Int32) (a1 : Int32) (a2 : Int32) (k : Int32 → Wd → Prop) : Prop :=
  wp_J14_max w a1 a2 (fun v1 w2 =>
  if (a0 + v1) ≤ 0 then (
    False
  ) else (
    if (2147483639 : Int32) < (a0 + v1) then (
      False
    ) else (
      k (a0 + v1) w2
    )
  ))
def wp_J10_newCapacity (w : Wd) (a0 : Nat) (a1 : Int32) (k : Int32 → Wd → Prop) : Prop :=
  wgG w (some a0) [35] 1500 (fun v1 =>
  wln w v1 (fun v2 =>
  wgF w (some a0) [35] 1501 (fun v3 =>
  wgF w (some a0) [35] 1501 (fun v4 =>
  wp_J13_newLength w v2 ((a1 <<< (v3 &&& 31)) - v2) (v2 + (2 <<< (v4 &&& 31))) (fun v5 w6 =>
  if v5 = 2147483647 then (
    False
  ) else (
    wgF w6 (some a0) [35] 1501 (fun v7 =>
    k (v5 >>> (v7 &&& 31)) w6)
  ))))))
def wp_J15_copyOf (w : Wd) (a0 : Option Nat) (a1 : Int32) (k : Option Nat → Wd → Prop) : Prop :=
  wln w a0 (fun v1 =>
  if a1 = v1 then (
    False
  ) else (
    wna w 1 a1 70 (fun n2 w3 =>
    wln w3 a0 (fun v4 =>
    wp_J14_min w3 v4 a1 (fun v5 w6 =>
    wcp w6 a0 0 (some n2) 0 v5 1 [] (fun w7 =>
    k (some n2) w7))))
  ))
def wp_J10_ensureCapacityInternal (w : Wd) (a0 : Nat) (a1 : Int32) (k : Wd → Prop) : Prop :=
  wgG w (some a0) [35] 1500 (fun v1 =>
  wln w v1 (fun v2 =>
  wgF w (some a0) [35] 1501 (fun v3 =>
  if (a1 - (v2 >>> (v3 &&& 31))) ≤ 0 then (
    k w
  ) else (
    wgG w (some a0) [35] 1500 (fun v4 =>
    wob w a0 [35] ∧
    wp_J10_newCapacity w a0 a1 (fun v5 w6 =>
    wgF w6 (some a0) [35] 1501 (fun v7 =>
    wp_J15_copyOf w6 v4 (v5 <<< (v7 &&& 31)) (fun v8 w9 =>
    wpG w9 (some a0) [35] 1500 v8 (fun w10 =>
    k w10)))))
  ))))
def wb_J10_append_45 (k : Option Nat → Wd → Prop) (w : Wd) (a0 : Nat) (l1 : Int32) : Prop :=
    False
def wp_J10_append (w : Wd) (a0 : Nat) (a1 : Int32) (k : Option Nat → Wd → Prop) : Prop :=
  wgF w (some a0) [35] 1503 (fun v1 =>
  wob w a0 [35] ∧
  wp_J10_ensureCapacityInternal w a0 (v1 + 1) (fun w2 =>
  wob w2 a0 [35] ∧
  wp_J10_isLatin1 w2 a0 (fun v3 w4 =>
  if v3 = 0 then (
    wb_J10_append_45 k w4 a0 a1
  ) else (
    wp_J16_canEncode w4 a1 (fun v5 w6 =>
    if v5 = 0 then (
      wb_J10_append_45 k w6 a0 a1
    ) else (
      wgG w6 (some a0) [35] 1500 (fun v7 =>
      wgF w6 (some a0) [35] 1503 (fun v8 =>
      wpF w6 (some a0) [35] 1503 (v8 + 1) (fun w9 =>
      wst w9 v7 1 v8 (vp_nar .byte (a1.toInt8.toInt32)) (fun w10 =>
      k (some a0) w10))))
    ))
  ))))
def wp_J11_append (w : Wd) (a0 : Nat) (a1 : Int32) (k : Option Nat → Wd → Prop) : Prop :=
  wob w a0 [35] ∧
  wp_J10_append w a0 a1 (fun v1 w2 =>
  k (some a0) w2)
def wb_X12_next_124 (k : Wd → Prop) (L124 : Wd → Nat → Int32 → Prop) (w : Wd) (a0 : Nat) (l1 : Int32) : Prop :=
    wob w a0 [32] ∧
    wp_X12_isIn w a0 48 57 (fun v16 w17 =>
    if v16 = 0 then (
      wgF w17 (some a0) [32] 1203 (fun v18 =>
      wgF w17 (some a0) [32] 1204 (fun v19 =>
      if (v18 - v19) ≤ 2 then (
        wpF w17 (some a0) [32] 1206 l1 (fun w20 =>
        k w20)
      ) else (
        wpF w17 (some a0) [32] 1206 100 (fun w21 =>
        k w21)
      )))
    ) else (
      wgG w17 (some a0) [32] 1200 (fun v22 =>
      wgF w17 (some a0) [32] 1203 (fun v23 =>
      wld w17 v22 0 v23 (fun v24 =>
      wp_J14_min w17 100 (((10 * l1) + v24) - 48) (fun v25 w26 =>
      wgF w26 (some a0) [32] 1203 (fun v27 =>
      wpF w26 (some a0) [32] 1203 (v27 + 1) (fun w28 =>
      L124 w28 a0 v25))))))
    ))
def wl_X12_next_124 (k : Wd → Prop) (n : Nat) : Wd → Nat → Int32 → Prop := Nat.rec (motive := fun _ => Wd → Nat → Int32 → Prop) (fun _ _ _ => False) (fun _ L => wb_X12_next_124 k L) n
theorem wl_X12_next_124_s (k : Wd → Prop) (n : Nat) : wl_X12_next_124 k (n + 1) = wb_X12_next_124 k (wl_X12_next_124 k n) := rfl
theorem wl_X12_next_124_0 (k : Wd → Prop) : wl_X12_next_124 k 0 = fun _ _ _ => False := rfl
def wb_X12_next_100 (k : Wd → Prop) (w : Wd) (a0 : Nat) (l1 : Option Nat) : Prop :=
    wnn l1 (fun b36 =>
    wob w b36 [35] ∧
    wp_J11_toString w b36 (fun v34 w35 =>
    wpG w35 (some a0) [32] 1205 v34 (fun w37 =>
    k w37)))
def wb_X12_next_61 (k : Wd → Prop) (L61 : Nat → Wd → Nat → Option Nat → Prop) (gg : Nat) (w : Wd) (a0 : Nat) (l1 : Option Nat) : Prop :=
    wob w a0 [32] ∧
    wp_X12_isIn w a0 97 122 (fun v32 w33 =>
    if v32 = 0 then (
      wb_X12_next_100 k w33 a0 l1
    ) else (
      wgG w33 (some a0) [32] 1200 (fun v38 =>
      wgF w33 (some a0) [32] 1203 (fun v39 =>
      wld w33 v38 0 v39 (fun v40 =>
      (
        wnn l1 (fun b43 =>
        wob w33 b43 [35] ∧
        wp_J11_appendng w33 b43 ((v40.toUInt32 % 65536).toInt32) (fun v41 w42 =>
        wgF w42 (some a0) [32] 1203 (fun v44 =>
        wpF w42 (some a0) [32] 1203 (v44 + 1) (fun w45 =>
        L61 gg w45 a0 (some b43)))))
      ) ∨ (0 < gg ∧ (
        wnn l1 (fun b48 =>
        wob w33 b48 [35] ∧
        wp_J11_append w33 b48 ((v40.toUInt32 % 65536).toInt32) (fun v46 w47 =>
        wgF w47 (some a0) [32] 1203 (fun v49 =>
        wpF w47 (some a0) [32] 1203 (v49 + 1) (fun w50 =>
        L61 (gg - 1) w50 a0 (some b48)))))
      )))))
    ))
def wl_X12_next_61 (k : Wd → Prop) (n : Nat) : Nat → Wd → Nat → Option Nat → Prop := Nat.rec (motive := fun _ => Nat → Wd → Nat → Option Nat → Prop) (fun _ _ _ _ => False) (fun _ L => wb_X12_next_61 k L) n
theorem wl_X12_next_61_s (k : Wd → Prop) (n : Nat) : wl_X12_next_61 k (n + 1) = wb_X12_next_61 k (wl_X12_next_61 k n) := rfl
theorem wl_X12_next_61_0 (k : Wd → Prop) : wl_X12_next_61 k 0 = fun _ _ _ _ => False := rfl
def wb_X12_next_0 (k : Wd → Prop) (L0 : Wd → Nat → Prop) (w : Wd) (a0 : Nat) : Prop :=
    wob w a0 [32] ∧
    wp_X12_isIn w a0 32 32 (fun v1 w2 =>
    if v1 = 0 then (
      wgF w2 (some a0) [32] 1203 (fun v3 =>
      wpF w2 (some a0) [32] 1204 v3 (fun w4 =>
      wpG w4 (some a0) [32] 1205 none (fun w5 =>
      wpF w5 (some a0) [32] 1206 (-1) (fun w6 =>
      wob w6 a0 [32] ∧
      wp_X12_isIn w6 a0 97 122 (fun v7 w8 =>
      if v7 = 0 then (
        wob w8 a0 [32] ∧
        wp_X12_isIn w8 a0 48 57 (fun v9 w10 =>
        if v9 = 0 then (
          wob w10 a0 [32] ∧
          wp_X12_isIn w10 a0 59 59 (fun v11 w12 =>
          if v11 = 0 then (
            k w12
          ) else (
            wpG w12 (some a0) [32] 1205 (wk w12 10) (fun w13 =>
            wgF w13 (some a0) [32] 1203 (fun v14 =>
            wpF w13 (some a0) [32] 1203 (v14 + 1) (fun w15 =>
            k w15)))
          ))
        ) else (
          wl_X12_next_124 k FU w10 a0 0
        ))
      ) else (
        wnew w8 35 4 (fun n29 w30 =>
        wp_J11_init w30 n29 (fun w31 =>
        wl_X12_next_61 k FU 2 w31 a0 (some n29)))
      ))))))
    ) else (
      wgF w2 (some a0) [32] 1203 (fun v51 =>
      wpF w2 (some a0) [32] 1203 (v51 + 1) (fun w52 =>
      L0 w52 a0))
    ))
def wl_X12_next_0 (k : Wd → Prop) (n : Nat) : Wd → Nat → Prop := Nat.rec (motive := fun _ => Wd → Nat → Prop) (fun _ _ => False) (fun _ L => wb_X12_next_0 k L) n
theorem wl_X12_next_0_s (k : Wd → Prop) (n : Nat) : wl_X12_next_0 k (n + 1) = wb_X12_next_0 k (wl_X12_next_0 k n) := rfl
theorem wl_X12_next_0_0 (k : Wd → Prop) : wl_X12_next_0 k 0 = fun _ _ => False := rfl
def wp_X12_next (w : Wd) (a0 : Nat) (k : Wd → Prop) : Prop :=
  wl_X12_next_0 k FU w a0
def wp_J4_isLatin1 (w : Wd) (a0 : Nat) (k : Int32 → Wd → Prop) : Prop :=
  if (1 : Int32) = 0 then (
    k 0 w
  ) else (
    wgF w (some a0) [34] 1401 (fun v1 =>
    if v1 = 0 then (
      k 1 w
    ) else (
      k 0 w
    ))
  )
def wb_J13_signedHashCode_8 (k : Int32 → Wd → Prop) (L8 : Wd → Int32 → Option Nat → Int32 → Int32 → Prop) (w : Wd) (l0 : Int32) (l1 : Option Nat) (l4 : Int32) (l5 : Int32) : Prop :=
    if l4 ≤ l5 then (
      k l0 w
    ) else (
      wld w l1 1 l5 (fun v1 =>
      L8 w ((31 * l0) + (v1 &&& 255)) l1 l4 (l5 + 1))
    )
def wl_J13_signedHashCode_8 (k : Int32 → Wd → Prop) (n : Nat) : Wd → Int32 → Option Nat → Int32 → Int32 → Prop := Nat.rec (motive := fun _ => Wd → Int32 → Option Nat → Int32 → Int32 → Prop) (fun _ _ _ _ _ => False) (fun _ L => wb_J13_signedHashCode_8 k L) n
theorem wl_J13_signedHashCode_8_s (k : Int32 → Wd → Prop) (n : Nat) : wl_J13_signedHashCode_8 k (n + 1) = wb_J13_signedHashCode_8 k (wl_J13_signedHashCode_8 k n) := rfl
theorem wl_J13_signedHashCode_8_0 (k : Int32 → Wd → Prop) : wl_J13_signedHashCode_8 k 0 = fun _ _ _ _ _ => False := rfl
def wp_J13_signedHashCode (w : Wd) (a0 : Int32) (a1 : Option Nat) (a2 : Int32) (a3 : Int32) (k : Int32 → Wd → Prop) : Prop :=
  wl_J13_signedHashCode_8 k FU w a0 a1 (a2 + a3) a2
def wp_J13_vectorizedHashCode (w : Wd) (a0 : Option Nat) (a1 : Int32) (a2 : Int32) (a3 : Int32) (a4 : Int32) (k : Int32 → Wd → Prop) : Prop :=
  if a4 = 4 then (
    wcc w a0 [1] (
    wp_J13_signedHashCode w a3 a0 a1 a2 (fun v1 w2 =>
    k v1 w2))
  ) else (
  if a4 = 5 then (
    False
  ) else (
  if a4 = 6 then (
    False
  ) else (
  if a4 = 7 then (
    False
  ) else (
  if a4 = 8 then (
    False
  ) else (
  if a4 = 9 then (
    False
  ) else (
  if a4 = 10 then (
    False
  ) else (
    False
  )))))))
def wp_J16_hashCode (w : Wd) (a0 : Option Nat) (k : Int32 → Wd → Prop) : Prop :=
  wln w a0 (fun v1 =>
  if v1 = 0 then (
    k 0 w
  ) else (
  if v1 = 1 then (
    wld w a0 1 0 (fun v2 =>
    k (v2 &&& 255) w)
  ) else (
    wln w a0 (fun v3 =>
    wp_J13_vectorizedHashCode w a0 0 v3 0 4 (fun v4 w5 =>
    k v4 w5))
  )))
def wb_J4_hashCode_40 (k : Int32 → Wd → Prop) (w : Wd) (a0 : Nat) (s0 : Int32) : Prop :=
    if s0 = 0 then (
      wpF w (some a0) [34] 1403 1 (fun w10 =>
      k s0 w10)
    ) else (
      wpF w (some a0) [34] 1402 s0 (fun w9 =>
      k s0 w9)
    )
def wp_J4_hashCode (w : Wd) (a0 : Nat) (k : Int32 → Wd → Prop) : Prop :=
  wgF w (some a0) [34] 1402 (fun v1 =>
  if v1 = 0 then (
    wgF w (some a0) [34] 1403 (fun v2 =>
    if v2 = 0 then (
      wob w a0 [34] ∧
      wp_J4_isLatin1 w a0 (fun v3 w4 =>
      if v3 = 0 then (
        wgG w4 (some a0) [34] 1400 (fun v5 =>
        False)
      ) else (
        wgG w4 (some a0) [34] 1400 (fun v6 =>
        wp_J16_hashCode w4 v6 (fun v7 w8 =>
        wb_J4_hashCode_40 k w8 a0 v7))
      ))
    ) else (
      k v1 w
    ))
  ) else (
    k v1 w
  ))
def wb_J16_equals_9 (k : Int32 → Wd → Prop) (L9 : Wd → Option Nat → Option Nat → Int32 → Prop) (w : Wd) (l0 : Option Nat) (l1 : Option Nat) (l2 : Int32) : Prop :=
    wln w l0 (fun v3 =>
    if v3 ≤ l2 then (
      k 1 w
    ) else (
      wld w l0 1 l2 (fun v4 =>
      wld w l1 1 l2 (fun v5 =>
      if v4 = v5 then (
        L9 w l0 l1 (l2 + 1)
      ) else (
        k 0 w
      )))
    ))
def wl_J16_equals_9 (k : Int32 → Wd → Prop) (n : Nat) : Wd → Option Nat → Option Nat → Int32 → Prop := Nat.rec (motive := fun _ => Wd → Option Nat → Option Nat → Int32 → Prop) (fun _ _ _ _ => False) (fun _ L => wb_J16_equals_9 k L) n
theorem wl_J16_equals_9_s (k : Int32 → Wd → Prop) (n : Nat) : wl_J16_equals_9 k (n + 1) = wb_J16_equals_9 k (wl_J16_equals_9 k n) := rfl
theorem wl_J16_equals_9_0 (k : Int32 → Wd → Prop) : wl_J16_equals_9 k 0 = fun _ _ _ _ => False := rfl
def wp_J16_equals (w : Wd) (a0 : Option Nat) (a1 : Option Nat) (k : Int32 → Wd → Prop) : Prop :=
  wln w a0 (fun v1 =>
  wln w a1 (fun v2 =>
  if v1 = v2 then (
    wl_J16_equals_9 k FU w a0 a1 0
  ) else (
    k 0 w
  )))
def wb_J4_equals_36 (k : Int32 → Wd → Prop) (w : Wd) (a0 : Nat) (l2 : Option Nat) : Prop :=
    wgG w (some a0) [34] 1400 (fun v2 =>
    wgG w l2 [34] 1400 (fun v3 =>
    wp_J16_equals w v2 v3 (fun v4 w5 =>
    if v4 = 0 then (
      k 0 w5
    ) else (
      k 1 w5
    ))))
def wp_J4_equals (w : Wd) (a0 : Nat) (a1 : Option Nat) (k : Int32 → Wd → Prop) : Prop :=
  if (some a0) = a1 then (
    k 1 w
  ) else (
    wioS w a1 34 (fun v1 =>
    if v1 = 0 then (
      k 0 w
    ) else (
      wccS w a1 34 (
      if (1 : Int32) = 0 then (
        wb_J4_equals_36 k w a0 a1
      ) else (
        wgF w (some a0) [34] 1401 (fun v6 =>
        wgF w a1 [34] 1401 (fun v7 =>
        if v6 = v7 then (
          wb_J4_equals_36 k w a0 a1
        ) else (
          k 0 w
        )))
      ))
    ))
  )
def wp_X13_init (w : Wd) (a0 : Nat) (a1 : Int32) (k : Wd → Prop) : Prop :=
  wp_J1_init_2 w a0 none none 0 0 (fun w1 =>
  wpF w1 (some a0) [33] 506 a1 (fun w2 =>
  k w2))
def wp_X12_wrong (w : Wd) (a0 : Nat) (k : Option Nat → Wd → Prop) : Prop :=
  wnew w 33 7 (fun n1 w2 =>
  wgF w2 (some a0) [32] 1204 (fun v3 =>
  wp_X13_init w2 n1 v3 (fun w4 =>
  k (some n1) w4)))
def wp_X12_number (w : Wd) (a0 : Nat) (a1 : Int32) (a2 : Int32) (x : Nat → Wd → Prop) (k : Int32 → Wd → Prop) : Prop :=
  wgF w (some a0) [32] 1206 (fun v1 =>
  if v1 < a1 then (
    wob w a0 [32] ∧
    wp_X12_wrong w a0 (fun v2 w3 =>
    wthr w3 v2 33 (fun q4 => x q4 w3))
  ) else (
    wgF w (some a0) [32] 1206 (fun v5 =>
    if v5 ≤ a2 then (
      wgF w (some a0) [32] 1206 (fun v6 =>
      wob w a0 [32] ∧
      wp_X12_next w a0 (fun w7 =>
      k v6 w7))
    ) else (
      wob w a0 [32] ∧
      wp_X12_wrong w a0 (fun v8 w9 =>
      wthr w9 v8 33 (fun q10 => x q10 w9))
    ))
  ))
def wp_X12_need (w : Wd) (a0 : Nat) (a1 : Int32) (x : Nat → Wd → Prop) (k : Wd → Prop) : Prop :=
  if a1 = 0 then (
    wob w a0 [32] ∧
    wp_X12_wrong w a0 (fun v1 w2 =>
    wthr w2 v1 33 (fun q3 => x q3 w2))
  ) else (
    k w
  )
def wp_X12_cell (w : Wd) (a0 : Nat) (x : Nat → Wd → Prop) (k : Int32 → Wd → Prop) : Prop :=
  wgG w (some a0) [32] 1202 (fun v1 =>
  wgF w (some a0) [32] 1206 (fun v2 =>
  wnn v1 (fun b5 =>
  wob w b5 [21] ∧
  wp_X1_isCell w b5 v2 (fun v3 w4 =>
  wob w4 a0 [32] ∧
  wp_X12_need w4 a0 v3 (fun q7 w8 => x q7 w8) (fun w6 =>
  wob w6 a0 [32] ∧
  wp_X12_number w6 a0 0 70 (fun q11 w12 => x q11 w12) (fun v9 w10 =>
  k v9 w10))))))
def wb_X12_adds_74 (x : Nat → Wd → Prop) (k : Wd → Prop) (w : Wd) (a0 : Nat) (l1 : Int32) (l2 : Int32) (s0 : Option Nat) (s1 : Int32) : Prop :=
    wnn s0 (fun b22 =>
    wob w b22 [32] ∧
    wp_X12_need w b22 s1 (fun q23 w24 => x q23 w24) (fun w21 =>
    wob w21 a0 [32] ∧
    wp_X12_cell w21 a0 (fun q27 w28 => x q27 w28) (fun v25 w26 =>
    wgG w26 (some a0) [32] 1202 (fun v29 =>
    wob w26 a0 [32] ∧
    wp_X12_number w26 a0 0 3 (fun q32 w33 => x q32 w33) (fun v30 w31 =>
    wnn v29 (fun b36 =>
    wob w31 b36 [21] ∧
    wp_X1_adds w31 b36 l1 l2 v25 v30 (fun v34 w35 =>
    k w35)))))))
def wb_X12_adds_73 (x : Nat → Wd → Prop) (k : Wd → Prop) (w : Wd) (a0 : Nat) (l1 : Int32) (l2 : Int32) (s0 : Option Nat) : Prop :=
    wb_X12_adds_74 x k w a0 l1 l2 s0 0
def wb_X12_adds_18 (x : Nat → Wd → Prop) (k : Wd → Prop) (w : Wd) (a0 : Nat) (s0 : Option Nat) (s1 : Int32) : Prop :=
    wnn s0 (fun b4 =>
    wob w b4 [32] ∧
    wp_X12_need w b4 s1 (fun q5 w6 => x q5 w6) (fun w3 =>
    wob w3 a0 [32] ∧
    wp_X12_next w3 a0 (fun w7 =>
    wob w7 a0 [32] ∧
    wp_X12_number w7 a0 0 5 (fun q10 w11 => x q10 w11) (fun v8 w9 =>
    wob w9 a0 [32] ∧
    wp_X12_number w9 a0 0 9 (fun q14 w15 => x q14 w15) (fun v12 w13 =>
    wgG w13 (some a0) [32] 1202 (fun v16 =>
    wgF w13 (some a0) [32] 1206 (fun v17 =>
    wnn v16 (fun b20 =>
    wob w13 b20 [21] ∧
    wp_X1_isCell w13 b20 v17 (fun v18 w19 =>
    if v18 = 0 then (
      wb_X12_adds_73 x k w19 a0 v8 v12 (some a0)
    ) else (
      wgG w19 (some a0) [32] 1202 (fun v37 =>
      wgF w19 (some a0) [32] 1206 (fun v38 =>
      wnn v37 (fun b41 =>
      wob w19 b41 [21] ∧
      wp_X1_isPond w19 b41 v38 (fun v39 w40 =>
      if v39 = 0 then (
        wb_X12_adds_74 x k w40 a0 v8 v12 (some a0) 1
      ) else (
        wb_X12_adds_73 x k w40 a0 v8 v12 (some a0)
      )))))
    ))))))))))
def wp_X12_adds (w : Wd) (a0 : Nat) (x : Nat → Wd → Prop) (k : Wd → Prop) : Prop :=
  wgG w (some a0) [32] 1202 (fun v1 =>
  wgF w v1 [21] 107 (fun v2 =>
  if (8 : Int32) ≤ v2 then (
    wb_X12_adds_18 x k w a0 (some a0) 0
  ) else (
    wb_X12_adds_18 x k w a0 (some a0) 1
  )))
def wp_X12_told (w : Wd) (a0 : Nat) (a1 : Int32) (a2 : Int32) (x : Nat → Wd → Prop) (k : Wd → Prop) : Prop :=
  wob w a0 [32] ∧
  wp_X12_next w a0 (fun w1 =>
  wgG w1 (some a0) [32] 1202 (fun v2 =>
  wgG w1 v2 [21] 105 (fun v3 =>
  wob w1 a0 [32] ∧
  wp_X12_number w1 a0 0 a2 (fun q6 w7 => x q6 w7) (fun v4 w5 =>
  wst w5 v3 0 a1 v4 (fun w8 =>
  k w8)))))
def wb_X12_item_321 (x : Nat → Wd → Prop) (k : Wd → Prop) (w : Wd) (a0 : Nat) (s0 : Option Nat) (s1 : Int32) : Prop :=
    wnn s0 (fun b24 =>
    wob w b24 [32] ∧
    wp_X12_need w b24 s1 (fun q25 w26 => x q25 w26) (fun w23 =>
    wgG w23 (some a0) [32] 1202 (fun v27 =>
    wob w23 a0 [32] ∧
    wp_X12_cell w23 a0 (fun q30 w31 => x q30 w31) (fun v28 w29 =>
    wnn v27 (fun b33 =>
    wob w29 b33 [21] ∧
    wp_X1_pond w29 b33 v28 1 (fun w32 =>
    k w32))))))
def wb_X12_item_320 (x : Nat → Wd → Prop) (k : Wd → Prop) (w : Wd) (a0 : Nat) (s0 : Option Nat) : Prop :=
    wb_X12_item_321 x k w a0 s0 0
def wb_X12_item_207 (x : Nat → Wd → Prop) (k : Wd → Prop) (w : Wd) (a0 : Nat) (l2 : Int32) : Prop :=
    if l2 = 0 then (
      wob w a0 [32] ∧
      wp_X12_next w a0 (fun w8 =>
      wgG w8 (some a0) [32] 1202 (fun v9 =>
      wgG w8 (some a0) [32] 1202 (fun v10 =>
      wgF w8 v10 [21] 106 (fun v11 =>
      wob w8 a0 [32] ∧
      wp_X12_number w8 a0 v11 7 (fun q14 w15 => x q14 w15) (fun v12 w13 =>
      wpF w13 v9 [21] 106 v12 (fun w16 =>
      k w16))))))
    ) else (
    if l2 = 1 then (
      wob w a0 [32] ∧
      wp_X12_next w a0 (fun w17 =>
      wgG w17 (some a0) [32] 1202 (fun v18 =>
      wgF w17 (some a0) [32] 1206 (fun v19 =>
      wnn v18 (fun b22 =>
      wob w17 b22 [21] ∧
      wp_X1_isCell w17 b22 v19 (fun v20 w21 =>
      if v20 = 0 then (
        wb_X12_item_320 x k w21 a0 (some a0)
      ) else (
        wgG w21 (some a0) [32] 1202 (fun v34 =>
        wgF w21 (some a0) [32] 1206 (fun v35 =>
        wnn v34 (fun b38 =>
        wob w21 b38 [21] ∧
        wp_X1_mayPond w21 b38 v35 (fun v36 w37 =>
        if v36 = 0 then (
          wb_X12_item_320 x k w37 a0 (some a0)
        ) else (
          wb_X12_item_321 x k w37 a0 (some a0) 1
        )))))
      ))))))
    ) else (
    if l2 = 2 then (
      wob w a0 [32] ∧
      wp_X12_next w a0 (fun w39 =>
      wgG w39 (some a0) [32] 1202 (fun v40 =>
      wob w39 a0 [32] ∧
      wp_X12_cell w39 a0 (fun q43 w44 => x q43 w44) (fun v41 w42 =>
      wnn v40 (fun b46 =>
      wob w42 b46 [21] ∧
      wp_X1_pond w42 b46 v41 0 (fun w45 =>
      k w45)))))
    ) else (
    if l2 = 3 then (
      wob w a0 [32] ∧
      wp_X12_adds w a0 (fun q48 w49 => x q48 w49) (fun w47 =>
      k w47)
    ) else (
    if l2 = 4 then (
      wob w a0 [32] ∧
      wp_X12_next w a0 (fun w50 =>
      wgG w50 (some a0) [32] 1202 (fun v51 =>
      wgF w50 v51 [21] 107 (fun v52 =>
      wob w50 a0 [32] ∧
      wp_X12_number w50 a0 0 (v52 - 1) (fun q55 w56 => x q55 w56) (fun v53 w54 =>
      wgG w54 (some a0) [32] 1202 (fun v57 =>
      wgG w54 v57 [21] 104 (fun v58 =>
      wob w54 a0 [32] ∧
      wp_X12_number w54 a0 0 1 (fun q61 w62 => x q61 w62) (fun v59 w60 =>
      wst w60 v58 0 v53 v59 (fun w63 =>
      k w63))))))))
    ) else (
    if l2 = 5 then (
      wob w a0 [32] ∧
      wp_X12_told w a0 0 1 (fun q65 w66 => x q65 w66) (fun w64 =>
      k w64)
    ) else (
    if l2 = 6 then (
      wob w a0 [32] ∧
      wp_X12_told w a0 1 1 (fun q68 w69 => x q68 w69) (fun w67 =>
      k w67)
    ) else (
    if l2 = 7 then (
      wob w a0 [32] ∧
      wp_X12_told w a0 2 12 (fun q71 w72 => x q71 w72) (fun w70 =>
      k w70)
    ) else (
      wob w a0 [32] ∧
      wp_X12_wrong w a0 (fun v73 w74 =>
      wthr w74 v73 33 (fun q75 => x q75 w74))
    ))))))))
def wp_X12_item (w : Wd) (a0 : Nat) (x : Nat → Wd → Prop) (k : Wd → Prop) : Prop :=
  wgG w (some a0) [32] 1205 (fun v1 =>
  if v1 = none then (
    wob w a0 [32] ∧
    wp_X12_wrong w a0 (fun v90 w91 =>
    wthr w91 v90 33 (fun q92 => x q92 w91))
  ) else (
    wgG w (some a0) [32] 1205 (fun v2 =>
    wnn v2 (fun b5 =>
    wob w b5 [34] ∧
    wp_J4_hashCode w b5 (fun v3 w4 =>
    if v3 = (-991716523) then (
      wob w4 b5 [34] ∧
      wp_J4_equals w4 b5 (wk w4 14) (fun v6 w7 =>
      if v6 = 0 then (
        wb_X12_item_207 x k w7 a0 (-1)
      ) else (
        wb_X12_item_207 x k w7 a0 3
      ))
    ) else (
    if v3 = 3370 then (
      wob w4 b5 [34] ∧
      wp_J4_equals w4 b5 (wk w4 15) (fun v76 w77 =>
      if v76 = 0 then (
        wb_X12_item_207 x k w77 a0 (-1)
      ) else (
        wb_X12_item_207 x k w77 a0 4
      ))
    ) else (
    if v3 = 99755 then (
      wob w4 b5 [34] ∧
      wp_J4_equals w4 b5 (wk w4 13) (fun v78 w79 =>
      if v78 = 0 then (
        wb_X12_item_207 x k w79 a0 (-1)
      ) else (
        wb_X12_item_207 x k w79 a0 2
      ))
    ) else (
    if v3 = 110119 then (
      wob w4 b5 [34] ∧
      wp_J4_equals w4 b5 (wk w4 17) (fun v80 w81 =>
      if v80 = 0 then (
        wb_X12_item_207 x k w81 a0 (-1)
      ) else (
        wb_X12_item_207 x k w81 a0 6
      ))
    ) else (
    if v3 = 3317767 then (
      wob w4 b5 [34] ∧
      wp_J4_equals w4 b5 (wk w4 16) (fun v82 w83 =>
      if v82 = 0 then (
        wb_X12_item_207 x k w83 a0 (-1)
      ) else (
        wb_X12_item_207 x k w83 a0 5
      ))
    ) else (
    if v3 = 3446773 then (
      wob w4 b5 [34] ∧
      wp_J4_equals w4 b5 (wk w4 12) (fun v84 w85 =>
      if v84 = 0 then (
        wb_X12_item_207 x k w85 a0 (-1)
      ) else (
        wb_X12_item_207 x k w85 a0 1
      ))
    ) else (
    if v3 = 3530071 then (
      wob w4 b5 [34] ∧
      wp_J4_equals w4 b5 (wk w4 11) (fun v86 w87 =>
      if v86 = 0 then (
        wb_X12_item_207 x k w87 a0 (-1)
      ) else (
        wb_X12_item_207 x k w87 a0 0
      ))
    ) else (
    if v3 = 95774492 then (
      wob w4 b5 [34] ∧
      wp_J4_equals w4 b5 (wk w4 18) (fun v88 w89 =>
      if v88 = 0 then (
        wb_X12_item_207 x k w89 a0 (-1)
      ) else (
        wb_X12_item_207 x k w89 a0 7
      ))
    ) else (
      wb_X12_item_207 x k w4 a0 (-1)
    )))))))))))
  ))
def wp_X12_takes (w : Wd) (a0 : Nat) (a1 : Option Nat) (k : Int32 → Wd → Prop) : Prop :=
  wgG w (some a0) [32] 1205 (fun v1 =>
  if v1 = none then (
    k 0 w
  ) else (
    wgG w (some a0) [32] 1205 (fun v2 =>
    wnn v2 (fun b5 =>
    wob w b5 [34] ∧
    wp_J4_equals w b5 a1 (fun v3 w4 =>
    if v3 = 0 then (
      k 0 w4
    ) else (
      wob w4 a0 [32] ∧
      wp_X12_next w4 a0 (fun w6 =>
      k 1 w6)
    ))))
  ))
def wb_X12_read_10 (x : Nat → Wd → Prop) (k : Int32 → Wd → Prop) (L10 : Wd → Nat → Int32 → Prop) (w : Wd) (a0 : Nat) (l1 : Int32) : Prop :=
    wgF w (some a0) [32] 1204 (fun v5 =>
    wgF w (some a0) [32] 1201 (fun v6 =>
    if v6 ≤ v5 then (
      k l1 w
    ) else (
      wob w a0 [32] ∧
      wp_X12_takes w a0 (wk w 10) (fun v7 w8 =>
      if v7 = 0 then (
        wob w8 a0 [32] ∧
        wp_X12_wrong w8 a0 (fun v12 w13 =>
        wthr w13 v12 33 (fun q14 => x q14 w13))
      ) else (
        wob w8 a0 [32] ∧
        wp_X12_item w8 a0 (fun q10 w11 => x q10 w11) (fun w9 =>
        L10 w9 a0 (l1 + 1))
      ))
    )))
def wl_X12_read_10 (x : Nat → Wd → Prop) (k : Int32 → Wd → Prop) (n : Nat) : Wd → Nat → Int32 → Prop := Nat.rec (motive := fun _ => Wd → Nat → Int32 → Prop) (fun _ _ _ => False) (fun _ L => wb_X12_read_10 x k L) n
theorem wl_X12_read_10_s (x : Nat → Wd → Prop) (k : Int32 → Wd → Prop) (n : Nat) : wl_X12_read_10 x k (n + 1) = wb_X12_read_10 x k (wl_X12_read_10 x k n) := rfl
theorem wl_X12_read_10_0 (x : Nat → Wd → Prop) (k : Int32 → Wd → Prop) : wl_X12_read_10 x k 0 = fun _ _ _ => False := rfl
def wp_X12_read (w : Wd) (a0 : Nat) (x : Nat → Wd → Prop) (k : Int32 → Wd → Prop) : Prop :=
  wob w a0 [32] ∧
  wp_X12_next w a0 (fun w1 =>
  wob w1 a0 [32] ∧
  wp_X12_item w1 a0 (fun q3 w4 => x q3 w4) (fun w2 =>
  wl_X12_read_10 x k 34 w2 a0 1))
def wb_X0_becomes_7 (k : Wd → Prop) (L7 : Wd → Nat → Int32 → Prop) (w : Wd) (a0 : Nat) (l2 : Int32) : Prop :=
    if (8 : Int32) ≤ l2 then (
      k w
    ) else (
      wgG w (some a0) [20] 8 (fun v2 =>
      wldQ w v2 8 l2 (fun v3 =>
      wgG w v3 [23] 300 (fun v4 =>
      wio w v4 [26, 27, 28, 29, 30, 31] [1, 2, 0, 5, 4] (fun v5 =>
      if v5 = 0 then (
        L7 w a0 (l2 + 1)
      ) else (
        wgG w (some a0) [20] 8 (fun v6 =>
        wldQ w v6 8 l2 (fun v7 =>
        wgG w v7 [23] 300 (fun v8 =>
        wcc w v8 [26, 27, 28, 29, 30, 31] (
        wgF w v8 [26, 27, 28, 29, 30, 31] 600 (fun v9 =>
        wgG w (some a0) [20] 8 (fun v10 =>
        wldQ w v10 8 l2 (fun v11 =>
        wgG w (some a0) [20] 0 (fun v12 =>
        wnn v12 (fun b15 =>
        wob w b15 [21] ∧
        wp_X1_isPerson w b15 v9 (fun v13 w14 =>
        if v13 = 0 then (
          wpG w14 v11 [23] 300 none (fun w16 =>
          L7 w16 a0 (l2 + 1))
        ) else (
          wgG w14 (some a0) [20] 0 (fun v17 =>
          wgG w14 v17 [21] 101 (fun v18 =>
          wldQ w14 v18 6 v9 (fun v19 =>
          wpG w14 v11 [23] 300 v19 (fun w20 =>
          L7 w20 a0 (l2 + 1)))))
        )))))))))))
      )))))
    )
def wl_X0_becomes_7 (k : Wd → Prop) (n : Nat) : Wd → Nat → Int32 → Prop := Nat.rec (motive := fun _ => Wd → Nat → Int32 → Prop) (fun _ _ _ => False) (fun _ L => wb_X0_becomes_7 k L) n
theorem wl_X0_becomes_7_s (k : Wd → Prop) (n : Nat) : wl_X0_becomes_7 k (n + 1) = wb_X0_becomes_7 k (wl_X0_becomes_7 k n) := rfl
theorem wl_X0_becomes_7_0 (k : Wd → Prop) : wl_X0_becomes_7 k 0 = fun _ _ _ => False := rfl
def wp_X0_becomes (w : Wd) (a0 : Nat) (a1 : Option Nat) (k : Wd → Prop) : Prop :=
  wpG w (some a0) [20] 0 a1 (fun w1 =>
  wl_X0_becomes_7 k FU w1 a0 0)
def wb_X0_island_45 (k : Int32 → Wd → Prop) (w : Wd) (a0 : Nat) (s0 : Option Nat) : Prop :=
    wob w a0 [20] ∧
    wp_X0_no w a0 (-2) (fun v14 w15 =>
    wgF w15 s0 [33] 506 (fun v16 =>
    wpF w15 (some a0) [20] 10 0 (fun w17 =>
    k ((-20) - v16) w17)))
def wp_X0_island (w : Wd) (a0 : Nat) (k : Int32 → Wd → Prop) : Prop :=
  wnew w 32 7 (fun n1 w2 =>
  wgG w2 (some a0) [20] 9 (fun v3 =>
  wgF w2 (some a0) [20] 10 (fun v4 =>
  wgG w2 (some a0) [20] 0 (fun v5 =>
  wnn v5 (fun b8 =>
  wob w2 b8 [21] ∧
  wp_X1_copied w2 b8 (fun v6 w7 =>
  wp_X12_init w7 n1 v3 v4 v6 (fun w9 =>
  wob w9 n1 [32] ∧
  wp_X12_read w9 n1 (fun q12 w13 => wb_X0_island_45 k w13 a0 (some q12)) (fun v10 w11 =>
  wgG w11 (some n1) [32] 1202 (fun v18 =>
  wob w11 a0 [20] ∧
  wp_X0_becomes w11 a0 v18 (fun w19 =>
  wpF w19 (some a0) [20] 10 0 (fun w20 =>
  k v10 w20)))))))))))
def wp_X6_kind (w : Wd) (a0 : Nat) (k : Int32 → Wd → Prop) : Prop :=
  k 0 w
def wp_X7_kind (w : Wd) (a0 : Nat) (k : Int32 → Wd → Prop) : Prop :=
  k 1 w
def wp_X8_kind (w : Wd) (a0 : Nat) (k : Int32 → Wd → Prop) : Prop :=
  k 2 w
def wp_X9_kind (w : Wd) (a0 : Nat) (k : Int32 → Wd → Prop) : Prop :=
  k 3 w
def wp_X10_kind (w : Wd) (a0 : Nat) (k : Int32 → Wd → Prop) : Prop :=
  k 4 w
def wp_X11_kind (w : Wd) (a0 : Nat) (k : Int32 → Wd → Prop) : Prop :=
  k 5 w
def wd_kind (w : Wd) (b : Nat) (k : Int32 → Wd → Prop) : Prop :=
  wob w b [26, 27, 28, 29, 30, 31] ∧
  (wob w b [26] → wp_X6_kind w b k) ∧
  (wob w b [27] → wp_X7_kind w b k) ∧
  (wob w b [28] → wp_X8_kind w b k) ∧
  (wob w b [29] → wp_X9_kind w b k) ∧
  (wob w b [30] → wp_X10_kind w b k) ∧
  (wob w b [31] → wp_X11_kind w b k)
def wp_X1_everybody (w : Wd) (a0 : Nat) (k : Int32 → Wd → Prop) : Prop :=
  wgF w (some a0) [21] 107 (fun v1 =>
  k ((1 <<< (v1 &&& 31)) - 1) w)
def wb_X1_weight_4 (k : Int32 → Wd → Prop) (L4 : Wd → Nat → Int32 → Int32 → Int32 → Prop) (w : Wd) (a0 : Nat) (l1 : Int32) (l2 : Int32) (l3 : Int32) : Prop :=
    wgF w (some a0) [21] 107 (fun v1 =>
    if v1 ≤ l3 then (
      k l2 w
    ) else (
      wp_X0_has w l1 l3 (fun v2 w3 =>
      if v2 = 0 then (
        L4 w3 a0 l1 (l2 + 0) (l3 + 1)
      ) else (
        wgG w3 (some a0) [21] 101 (fun v4 =>
        wldQ w3 v4 6 l3 (fun v5 =>
        wgF w3 v5 [26, 27, 28, 29, 30, 31] 601 (fun v6 =>
        L4 w3 a0 l1 (l2 + v6) (l3 + 1))))
      ))
    ))
def wl_X1_weight_4 (k : Int32 → Wd → Prop) (n : Nat) : Wd → Nat → Int32 → Int32 → Int32 → Prop := Nat.rec (motive := fun _ => Wd → Nat → Int32 → Int32 → Int32 → Prop) (fun _ _ _ _ _ => False) (fun _ L => wb_X1_weight_4 k L) n
theorem wl_X1_weight_4_s (k : Int32 → Wd → Prop) (n : Nat) : wl_X1_weight_4 k (n + 1) = wb_X1_weight_4 k (wl_X1_weight_4 k n) := rfl
theorem wl_X1_weight_4_0 (k : Int32 → Wd → Prop) : wl_X1_weight_4 k 0 = fun _ _ _ _ _ => False := rfl
def wp_X1_weight (w : Wd) (a0 : Nat) (a1 : Int32) (k : Int32 → Wd → Prop) : Prop :=
  wl_X1_weight_4 k FU w a0 a1 0 0
def wb_X0_power_61 (k : Int32 → Wd → Prop) (L20 : Wd → Nat → Int32 → Int32 → Int32 → Int32 → Prop) (w : Wd) (a0 : Nat) (l1 : Int32) (l2 : Int32) (l3 : Int32) (l4 : Int32) (s0 : Int32) : Prop :=
    if s0 = 0 then (
      L20 w a0 l1 l2 (l3 + 0) (l4 + 1)
    ) else (
      wgG w (some a0) [20] 0 (fun v15 =>
      wnn v15 (fun b18 =>
      wob w b18 [21] ∧
      wp_X1_weight w b18 (l4 ||| (1 <<< (l1 &&& 31))) (fun v16 w17 =>
      if ((2 : Int32) * v16) ≤ l2 then (
        L20 w17 a0 l1 l2 (l3 + 0) (l4 + 1)
      ) else (
        L20 w17 a0 l1 l2 (l3 + 1) (l4 + 1)
      ))))
    )
def wb_X0_power_60 (k : Int32 → Wd → Prop) (L20 : Wd → Nat → Int32 → Int32 → Int32 → Int32 → Prop) (w : Wd) (a0 : Nat) (l1 : Int32) (l2 : Int32) (l3 : Int32) (l4 : Int32) : Prop :=
    wb_X0_power_61 k L20 w a0 l1 l2 l3 l4 0
def wb_X0_power_20 (k : Int32 → Wd → Prop) (L20 : Wd → Nat → Int32 → Int32 → Int32 → Int32 → Prop) (w : Wd) (a0 : Nat) (l1 : Int32) (l2 : Int32) (l3 : Int32) (l4 : Int32) : Prop :=
    wgG w (some a0) [20] 0 (fun v9 =>
    wnn v9 (fun b12 =>
    wob w b12 [21] ∧
    wp_X1_everybody w b12 (fun v10 w11 =>
    if v10 < l4 then (
      k l3 w11
    ) else (
      wp_X0_has w11 l4 l1 (fun v13 w14 =>
      if v13 = 0 then (
        wgG w14 (some a0) [20] 0 (fun v19 =>
        wnn v19 (fun b22 =>
        wob w14 b22 [21] ∧
        wp_X1_weight w14 b22 l4 (fun v20 w21 =>
        if l2 < (2 * v20) then (
          wb_X0_power_60 k L20 w21 a0 l1 l2 l3 l4
        ) else (
          wb_X0_power_61 k L20 w21 a0 l1 l2 l3 l4 1
        ))))
      ) else (
        wb_X0_power_60 k L20 w14 a0 l1 l2 l3 l4
      ))
    ))))
def wl_X0_power_20 (k : Int32 → Wd → Prop) (n : Nat) : Wd → Nat → Int32 → Int32 → Int32 → Int32 → Prop := Nat.rec (motive := fun _ => Wd → Nat → Int32 → Int32 → Int32 → Int32 → Prop) (fun _ _ _ _ _ _ => False) (fun _ L => wb_X0_power_20 k L) n
theorem wl_X0_power_20_s (k : Int32 → Wd → Prop) (n : Nat) : wl_X0_power_20 k (n + 1) = wb_X0_power_20 k (wl_X0_power_20 k n) := rfl
theorem wl_X0_power_20_0 (k : Int32 → Wd → Prop) : wl_X0_power_20 k 0 = fun _ _ _ _ _ _ => False := rfl
def wp_X0_power (w : Wd) (a0 : Nat) (a1 : Int32) (k : Int32 → Wd → Prop) : Prop :=
  wgG w (some a0) [20] 0 (fun v1 =>
  wgG w (some a0) [20] 0 (fun v2 =>
  wnn v2 (fun b5 =>
  wob w b5 [21] ∧
  wp_X1_everybody w b5 (fun v3 w4 =>
  wnn v1 (fun b8 =>
  wob w4 b8 [21] ∧
  wp_X1_weight w4 b8 v3 (fun v6 w7 =>
  wl_X0_power_20 k FU w7 a0 a1 v6 0 0))))))
def wp_X0_personOf (w : Wd) (a0 : Nat) (a1 : Int32) (a2 : Int32) (k : Int32 → Wd → Prop) : Prop :=
  wgG w (some a0) [20] 0 (fun v1 =>
  wnn v1 (fun b4 =>
  wob w b4 [21] ∧
  wp_X1_isPerson w b4 a1 (fun v2 w3 =>
  if v2 = 0 then (
    wob w3 a0 [20] ∧
    wp_X0_no w3 a0 (-2) (fun v28 w29 =>
    k v28 w29)
  ) else (
    if a2 = 0 then (
      wgG w3 (some a0) [20] 0 (fun v5 =>
      wgG w3 v5 [21] 101 (fun v6 =>
      wldQ w3 v6 6 a1 (fun v7 =>
      wnn v7 (fun b10 =>
      wd_kind w3 b10  (fun v8 w9 =>
      k v8 w9)))))
    ) else (
    if a2 = 1 then (
      wgG w3 (some a0) [20] 0 (fun v11 =>
      wgG w3 v11 [21] 101 (fun v12 =>
      wldQ w3 v12 6 a1 (fun v13 =>
      wgF w3 v13 [26, 27, 28, 29, 30, 31] 601 (fun v14 =>
      k v14 w3))))
    ) else (
    if a2 = 2 then (
      wgG w3 (some a0) [20] 0 (fun v15 =>
      wgG w3 v15 [21] 102 (fun v16 =>
      wld w3 v16 0 a1 (fun v17 =>
      k v17 w3)))
    ) else (
    if a2 = 3 then (
      wgG w3 (some a0) [20] 0 (fun v18 =>
      wgG w3 v18 [21] 103 (fun v19 =>
      wld w3 v19 0 a1 (fun v20 =>
      k v20 w3)))
    ) else (
    if a2 = 4 then (
      wgG w3 (some a0) [20] 0 (fun v21 =>
      wgG w3 v21 [21] 104 (fun v22 =>
      wld w3 v22 0 a1 (fun v23 =>
      k v23 w3)))
    ) else (
    if a2 = 5 then (
      wob w3 a0 [20] ∧
      wp_X0_power w3 a0 a1 (fun v24 w25 =>
      k v24 w25)
    ) else (
      wob w3 a0 [20] ∧
      wp_X0_no w3 a0 (-2) (fun v26 w27 =>
      k v26 w27)
    ))))))
  ))))
def wp_X0_isPond (w : Wd) (a0 : Nat) (a1 : Int32) (k : Int32 → Wd → Prop) : Prop :=
  wgG w (some a0) [20] 0 (fun v1 =>
  wnn v1 (fun b4 =>
  wob w b4 [21] ∧
  wp_X1_isCell w b4 a1 (fun v2 w3 =>
  if v2 = 0 then (
    wob w3 a0 [20] ∧
    wp_X0_no w3 a0 (-2) (fun v9 w10 =>
    k v9 w10)
  ) else (
    wgG w3 (some a0) [20] 0 (fun v5 =>
    wnn v5 (fun b8 =>
    wob w3 b8 [21] ∧
    wp_X1_isPond w3 b8 a1 (fun v6 w7 =>
    if v6 = 0 then (
      k 0 w7
    ) else (
      k 1 w7
    ))))
  ))))
def wb_X0_elementsIn_28 (x : Nat → Wd → Prop) (k : Option Nat → Wd → Prop) (w : Wd) (s0 : Option Nat) : Prop :=
    wnew w 25 7 (fun n7 w8 =>
    wp_X5_init w8 n7 (-2) (fun w9 =>
    wthr w9 (some n7) 25 (fun q10 => x q10 w9)))
def wb_X0_elementsIn_6 (x : Nat → Wd → Prop) (k : Option Nat → Wd → Prop) (L6 : Wd → Option Nat → Int32 → Option Nat → Int32 → Prop) (w : Wd) (l0 : Option Nat) (l1 : Int32) (l2 : Option Nat) (l3 : Int32) : Prop :=
    if l1 ≤ l3 then (
      k l2 w
    ) else (
      wp_X0_elementOf w l0 l3 (fun q5 w6 => wb_X0_elementsIn_28 x k w6 (some q5)) (fun v3 w4 =>
      wstL w4 l2 l3 v3 (fun w11 =>
      L6 w11 l0 l1 l2 (l3 + 1)))
    )
def wl_X0_elementsIn_6 (x : Nat → Wd → Prop) (k : Option Nat → Wd → Prop) (n : Nat) : Wd → Option Nat → Int32 → Option Nat → Int32 → Prop := Nat.rec (motive := fun _ => Wd → Option Nat → Int32 → Option Nat → Int32 → Prop) (fun _ _ _ _ _ => False) (fun _ L => wb_X0_elementsIn_6 x k L) n
theorem wl_X0_elementsIn_6_s (x : Nat → Wd → Prop) (k : Option Nat → Wd → Prop) (n : Nat) : wl_X0_elementsIn_6 x k (n + 1) = wb_X0_elementsIn_6 x k (wl_X0_elementsIn_6 x k n) := rfl
theorem wl_X0_elementsIn_6_0 (x : Nat → Wd → Prop) (k : Option Nat → Wd → Prop) : wl_X0_elementsIn_6 x k 0 = fun _ _ _ _ _ => False := rfl
def wp_X0_elementsIn (w : Wd) (a0 : Option Nat) (a1 : Int32) (x : Nat → Wd → Prop) (k : Option Nat → Wd → Prop) : Prop :=
  wna w 5 a1 40 (fun n1 w2 =>
  wl_X0_elementsIn_6 x k 44 w2 a0 a1 (some n1) 0)
def wp_X0_toldIn (w : Wd) (a0 : Nat) (a1 : Int32) (a2 : Int32) (a3 : Int32) (x : Nat → Wd → Prop) (k : Option Nat → Wd → Prop) : Prop :=
  if a1 = 0 then (
    wnew w 25 7 (fun n1 w2 =>
    wp_X5_init w2 n1 (-2) (fun w3 =>
    wthr w3 (some n1) 25 (fun q4 => x q4 w3)))
  ) else (
    wp_X0_isShelf w a2 (fun v5 w6 =>
    if v5 = 0 then (
      wnew w6 25 7 (fun n7 w8 =>
      wp_X5_init w8 n7 (-2) (fun w9 =>
      wthr w9 (some n7) 25 (fun q10 => x q10 w9)))
    ) else (
      wp_X0_isIn w6 a3 0 40 (fun v11 w12 =>
      if v11 = 0 then (
        wnew w12 25 7 (fun n21 w22 =>
        wp_X5_init w22 n21 (-2) (fun w23 =>
        wthr w23 (some n21) 25 (fun q24 => x q24 w23)))
      ) else (
        wob w12 a0 [20] ∧
        wp_X0_rowIn w12 a0 a2 (fun q15 w16 => x q15 w16) (fun v13 w14 =>
        wp_X0_elementsIn w14 v13 a3 (fun q19 w20 => x q19 w20) (fun v17 w18 =>
        k v17 w18))
      ))
    ))
  )
def wb_X0_wrongIn_2 (k : Int32 → Wd → Prop) (L2 : Wd → Option Nat → Int32 → Prop) (w : Wd) (l0 : Option Nat) (l1 : Int32) : Prop :=
    wln w l0 (fun v1 =>
    if v1 ≤ l1 then (
      k (-1) w
    ) else (
      wldL w l0 l1 (fun v2 =>
      if (lg_cmp v2 0) < 0 then (
        k l1 w
      ) else (
        wldL w l0 l1 (fun v3 =>
        if (lg_cmp v3 4) < 0 then (
          L2 w l0 (l1 + 1)
        ) else (
          k l1 w
        ))
      ))
    ))
def wl_X0_wrongIn_2 (k : Int32 → Wd → Prop) (n : Nat) : Wd → Option Nat → Int32 → Prop := Nat.rec (motive := fun _ => Wd → Option Nat → Int32 → Prop) (fun _ _ _ => False) (fun _ L => wb_X0_wrongIn_2 k L) n
theorem wl_X0_wrongIn_2_s (k : Int32 → Wd → Prop) (n : Nat) : wl_X0_wrongIn_2 k (n + 1) = wb_X0_wrongIn_2 k (wl_X0_wrongIn_2 k n) := rfl
theorem wl_X0_wrongIn_2_0 (k : Int32 → Wd → Prop) : wl_X0_wrongIn_2 k 0 = fun _ _ _ => False := rfl
def wp_X0_wrongIn (w : Wd) (a0 : Option Nat) (k : Int32 → Wd → Prop) : Prop :=
  wl_X0_wrongIn_2 k FU w a0 0
def wb_X0_judge_11 (k : Int32 → Wd → Prop) (w : Wd) (a0 : Nat) (s0 : Option Nat) : Prop :=
    wgF w s0 [25] 506 (fun v5 =>
    wob w a0 [20] ∧
    wp_X0_no w a0 v5 (fun v6 w7 =>
    k v6 w7))
def wp_X0_judge (w : Wd) (a0 : Nat) (a1 : Int32) (a2 : Int32) (k : Int32 → Wd → Prop) : Prop :=
  wob w a0 [20] ∧
  wp_X0_toldIn w a0 1 a1 a2 (fun q3 w4 => wb_X0_judge_11 k w4 a0 (some q3)) (fun v1 w2 =>
  wp_X0_wrongIn w2 v1 (fun v8 w9 =>
  k v8 w9))
def wp_X0_signs (w : Wd) (a0 : Option Nat) (x : Nat → Wd → Prop) (k : Option Nat → Wd → Prop) : Prop :=
  wp_X0_wrongIn w a0 (fun v1 w2 =>
  if v1 = (-1) then (
    k a0 w2
  ) else (
    wnew w2 25 7 (fun n3 w4 =>
    wp_X5_init w4 n3 (-5) (fun w5 =>
    wthr w5 (some n3) 25 (fun q6 => x q6 w5)))
  ))
def wp_X0_signsIn (w : Wd) (a0 : Nat) (a1 : Int32) (a2 : Int32) (a3 : Int32) (x : Nat → Wd → Prop) (k : Option Nat → Wd → Prop) : Prop :=
  wob w a0 [20] ∧
  wp_X0_toldIn w a0 a1 a2 a3 (fun q3 w4 => x q3 w4) (fun v1 w2 =>
  wp_X0_signs w2 v1 (fun q7 w8 => x q7 w8) (fun v5 w6 =>
  k v5 w6))
def wb_X0_walked_32 (k : Option Nat → Wd → Prop) (L32 : Wd → Nat → Option Nat → Int32 → Option Nat → Int32 → Int32 → Prop) (w : Wd) (a0 : Nat) (l1 : Option Nat) (l4 : Int32) (l5 : Option Nat) (l6 : Int32) (l7 : Int32) : Prop :=
    if l6 ≤ l7 then (
      wgG w (some a0) [20] 2 (fun v10 =>
      k v10 w)
    ) else (
      wldL w l5 l7 (fun v11 =>
      wgG w (some a0) [20] 2 (fun v12 =>
      wgG w (some a0) [20] 0 (fun v13 =>
      wnn v12 (fun b15 =>
      wob w b15 [22] ∧
      wp_X2_goes w b15 v13 l1 (v11.toInt32) l4 (fun w14 =>
      L32 w14 a0 l1 l4 l5 l6 (l7 + 1))))))
    )
def wl_X0_walked_32 (k : Option Nat → Wd → Prop) (n : Nat) : Wd → Nat → Option Nat → Int32 → Option Nat → Int32 → Int32 → Prop := Nat.rec (motive := fun _ => Wd → Nat → Option Nat → Int32 → Option Nat → Int32 → Int32 → Prop) (fun _ _ _ _ _ _ _ => False) (fun _ L => wb_X0_walked_32 k L) n
theorem wl_X0_walked_32_s (k : Option Nat → Wd → Prop) (n : Nat) : wl_X0_walked_32 k (n + 1) = wb_X0_walked_32 k (wl_X0_walked_32 k n) := rfl
theorem wl_X0_walked_32_0 (k : Option Nat → Wd → Prop) : wl_X0_walked_32 k 0 = fun _ _ _ _ _ _ _ => False := rfl
def wp_X0_walked (w : Wd) (a0 : Nat) (a1 : Option Nat) (a2 : Int32) (a3 : Option Nat) (a4 : Int32) (k : Option Nat → Wd → Prop) : Prop :=
  wgG w (some a0) [20] 2 (fun v1 =>
  wgG w (some a0) [20] 0 (fun v2 =>
  wgG w v2 [21] 103 (fun v3 =>
  wgF w a1 [26, 27, 28, 29, 30, 31] 600 (fun v4 =>
  wld w v3 0 v4 (fun v5 =>
  wnn v1 (fun b8 =>
  wob w b8 [22] ∧
  wp_X2_begins w b8 a2 v5 (fun v6 w7 =>
  wln w7 a3 (fun v9 =>
  wl_X0_walked_32 k FU w7 a0 a1 a4 a3 v9 0))))))))
def wp_X0_walkedBy (w : Wd) (a0 : Nat) (a1 : Int32) (a2 : Option Nat) (k : Option Nat → Wd → Prop) : Prop :=
  wgG w (some a0) [20] 0 (fun v1 =>
  wgG w v1 [21] 101 (fun v2 =>
  wldQ w v2 6 a1 (fun v3 =>
  wgG w (some a0) [20] 0 (fun v4 =>
  wgG w v4 [21] 102 (fun v5 =>
  wld w v5 0 a1 (fun v6 =>
  wgG w (some a0) [20] 0 (fun v7 =>
  wgG w v7 [21] 105 (fun v8 =>
  wld w v8 0 0 (fun v9 =>
  wob w a0 [20] ∧
  wp_X0_walked w a0 v3 v6 a2 v9 (fun v10 w11 =>
  k v10 w11))))))))))
def wb_X0_comes_72 (k : Int32 → Wd → Prop) (w : Wd) (a0 : Nat) (s0 : Option Nat) : Prop :=
    wgF w s0 [25] 506 (fun v10 =>
    wob w a0 [20] ∧
    wp_X0_no w a0 v10 (fun v11 w12 =>
    k v11 w12))
def wb_X0_comes_29 (k : Int32 → Wd → Prop) (w : Wd) (a0 : Nat) (l1 : Int32) (l2 : Int32) (l4 : Int32) (s0 : Option Nat) (s1 : Int32) (s2 : Option Nat) (s3 : Int32) : Prop :=
    wnn s2 (fun b7 =>
    wob w b7 [20] ∧
    wp_X0_signsIn w b7 s3 l1 l2 (fun q8 w9 => wb_X0_comes_72 k w9 a0 (some q8)) (fun v5 w6 =>
    wnn s0 (fun b15 =>
    wob w6 b15 [20] ∧
    wp_X0_walkedBy w6 b15 s1 v5 (fun v13 w14 =>
    if l4 = 0 then (
      wgF w14 v13 [22] 200 (fun v18 =>
      k v18 w14)
    ) else (
      if l4 = 1 then (
        wgF w14 v13 [22] 201 (fun v17 =>
        k v17 w14)
      ) else (
        wgF w14 v13 [22] 206 (fun v16 =>
        k v16 w14)
      )
    )))))
def wb_X0_comes_28 (k : Int32 → Wd → Prop) (w : Wd) (a0 : Nat) (l1 : Int32) (l2 : Int32) (l4 : Int32) (s0 : Option Nat) (s1 : Int32) (s2 : Option Nat) : Prop :=
    wb_X0_comes_29 k w a0 l1 l2 l4 s0 s1 s2 0
def wp_X0_comes (w : Wd) (a0 : Nat) (a1 : Int32) (a2 : Int32) (a3 : Int32) (a4 : Int32) (k : Int32 → Wd → Prop) : Prop :=
  wgG w (some a0) [20] 0 (fun v1 =>
  wnn v1 (fun b4 =>
  wob w b4 [21] ∧
  wp_X1_isPerson w b4 a3 (fun v2 w3 =>
  if v2 = 0 then (
    wb_X0_comes_28 k w3 a0 a1 a2 a4 (some a0) a3 (some a0)
  ) else (
    wp_X0_isIn w3 a4 0 2 (fun v19 w20 =>
    if v19 = 0 then (
      wb_X0_comes_28 k w20 a0 a1 a2 a4 (some a0) a3 (some a0)
    ) else (
      wb_X0_comes_29 k w20 a0 a1 a2 a4 (some a0) a3 (some a0) 1
    ))
  ))))
def wb_X0_fell_59 (k : Int32 → Wd → Prop) (w : Wd) (a0 : Nat) (s0 : Option Nat) : Prop :=
    wgF w s0 [25] 506 (fun v5 =>
    wob w a0 [20] ∧
    wp_X0_no w a0 v5 (fun v6 w7 =>
    k v6 w7))
def wb_X0_fell_14 (k : Int32 → Wd → Prop) (L14 : Wd → Nat → Option Nat → Int32 → Int32 → Prop) (w : Wd) (a0 : Nat) (l3 : Option Nat) (l4 : Int32) (l5 : Int32) : Prop :=
    wgG w (some a0) [20] 0 (fun v8 =>
    wgF w v8 [21] 107 (fun v9 =>
    if v9 ≤ l5 then (
      k l4 w
    ) else (
      wob w a0 [20] ∧
      wp_X0_walkedBy w a0 l5 l3 (fun v10 w11 =>
      wgF w11 v10 [22] 206 (fun v12 =>
      if v12 = (-1) then (
        L14 w11 a0 l3 (l4 + 0) (l5 + 1)
      ) else (
        L14 w11 a0 l3 (l4 + 1) (l5 + 1)
      )))
    )))
def wl_X0_fell_14 (k : Int32 → Wd → Prop) (n : Nat) : Wd → Nat → Option Nat → Int32 → Int32 → Prop := Nat.rec (motive := fun _ => Wd → Nat → Option Nat → Int32 → Int32 → Prop) (fun _ _ _ _ _ => False) (fun _ L => wb_X0_fell_14 k L) n
theorem wl_X0_fell_14_s (k : Int32 → Wd → Prop) (n : Nat) : wl_X0_fell_14 k (n + 1) = wb_X0_fell_14 k (wl_X0_fell_14 k n) := rfl
theorem wl_X0_fell_14_0 (k : Int32 → Wd → Prop) : wl_X0_fell_14 k 0 = fun _ _ _ _ _ => False := rfl
def wp_X0_fell (w : Wd) (a0 : Nat) (a1 : Int32) (a2 : Int32) (k : Int32 → Wd → Prop) : Prop :=
  wob w a0 [20] ∧
  wp_X0_signsIn w a0 1 a1 a2 (fun q3 w4 => wb_X0_fell_59 k w4 a0 (some q3)) (fun v1 w2 =>
  wl_X0_fell_14 k FU w2 a0 v1 0 0)
def wb_X0_ponds_117 (k : Int32 → Wd → Prop) (w : Wd) (a0 : Nat) (s0 : Option Nat) : Prop :=
    wgF w s0 [25] 506 (fun v9 =>
    wob w a0 [20] ∧
    wp_X0_no w a0 v9 (fun v10 w11 =>
    k v10 w11))
def wb_X0_ponds_58 (k : Int32 → Wd → Prop) (L22 : Wd → Nat → Int32 → Option Nat → Int32 → Int32 → Prop) (w : Wd) (a0 : Nat) (l3 : Int32) (l4 : Option Nat) (l5 : Int32) (l6 : Int32) (s0 : Int32) : Prop :=
    if s0 = 0 then (
      L22 w a0 l3 l4 (l5 + 0) (l6 + 1)
    ) else (
      wgG w (some a0) [20] 0 (fun v16 =>
      wgG w v16 [21] 101 (fun v17 =>
      wldQ w v17 6 l3 (fun v18 =>
      wgG w (some a0) [20] 0 (fun v19 =>
      wgG w v19 [21] 105 (fun v20 =>
      wld w v20 0 0 (fun v21 =>
      wob w a0 [20] ∧
      wp_X0_walked w a0 v18 l6 l4 v21 (fun v22 w23 =>
      wgF w23 v22 [22] 206 (fun v24 =>
      if v24 = (-1) then (
        L22 w23 a0 l3 l4 (l5 + 0) (l6 + 1)
      ) else (
        L22 w23 a0 l3 l4 (l5 + 1) (l6 + 1)
      )))))))))
    )
def wb_X0_ponds_57 (k : Int32 → Wd → Prop) (L22 : Wd → Nat → Int32 → Option Nat → Int32 → Int32 → Prop) (w : Wd) (a0 : Nat) (l3 : Int32) (l4 : Option Nat) (l5 : Int32) (l6 : Int32) : Prop :=
    wb_X0_ponds_58 k L22 w a0 l3 l4 l5 l6 0
def wb_X0_ponds_22 (k : Int32 → Wd → Prop) (L22 : Wd → Nat → Int32 → Option Nat → Int32 → Int32 → Prop) (w : Wd) (a0 : Nat) (l3 : Int32) (l4 : Option Nat) (l5 : Int32) (l6 : Int32) : Prop :=
    if (70 : Int32) ≤ l6 then (
      k l5 w
    ) else (
      wgG w (some a0) [20] 0 (fun v12 =>
      wnn v12 (fun b15 =>
      wob w b15 [21] ∧
      wp_X1_isCell w b15 l6 (fun v13 w14 =>
      if v13 = 0 then (
        wb_X0_ponds_57 k L22 w14 a0 l3 l4 l5 l6
      ) else (
        wgG w14 (some a0) [20] 0 (fun v25 =>
        wnn v25 (fun b28 =>
        wob w14 b28 [21] ∧
        wp_X1_isPond w14 b28 l6 (fun v26 w27 =>
        if v26 = 0 then (
          wb_X0_ponds_58 k L22 w27 a0 l3 l4 l5 l6 1
        ) else (
          wb_X0_ponds_57 k L22 w27 a0 l3 l4 l5 l6
        ))))
      ))))
    )
def wl_X0_ponds_22 (k : Int32 → Wd → Prop) (n : Nat) : Wd → Nat → Int32 → Option Nat → Int32 → Int32 → Prop := Nat.rec (motive := fun _ => Wd → Nat → Int32 → Option Nat → Int32 → Int32 → Prop) (fun _ _ _ _ _ _ => False) (fun _ L => wb_X0_ponds_22 k L) n
theorem wl_X0_ponds_22_s (k : Int32 → Wd → Prop) (n : Nat) : wl_X0_ponds_22 k (n + 1) = wb_X0_ponds_22 k (wl_X0_ponds_22 k n) := rfl
theorem wl_X0_ponds_22_0 (k : Int32 → Wd → Prop) : wl_X0_ponds_22 k 0 = fun _ _ _ _ _ _ => False := rfl
def wp_X0_ponds (w : Wd) (a0 : Nat) (a1 : Int32) (a2 : Int32) (a3 : Int32) (k : Int32 → Wd → Prop) : Prop :=
  wgG w (some a0) [20] 0 (fun v1 =>
  wnn v1 (fun b4 =>
  wob w b4 [21] ∧
  wp_X1_isPerson w b4 a3 (fun v2 w3 =>
  wob w3 a0 [20] ∧
  wp_X0_signsIn w3 a0 v2 a1 a2 (fun q7 w8 => wb_X0_ponds_117 k w8 a0 (some q7)) (fun v5 w6 =>
  wl_X0_ponds_22 k FU w6 a0 a3 v5 0 0))))
def wb_X0_kinds_176 (k : Int32 → Wd → Prop) (w : Wd) (a0 : Nat) (s0 : Option Nat) : Prop :=
    wgF w s0 [25] 506 (fun v9 =>
    wob w a0 [20] ∧
    wp_X0_no w a0 v9 (fun v10 w11 =>
    k v10 w11))
def wb_X0_kinds_145 (k : Int32 → Wd → Prop) (L78 : Wd → Nat → Int32 → Int32 → Int32 → Option Nat → Option Nat → Int32 → Int32 → Int32 → Prop) (w : Wd) (a0 : Nat) (l3 : Int32) (l4 : Int32) (l5 : Int32) (l7 : Option Nat) (l8 : Option Nat) (l9 : Int32) (l11 : Int32) (s0 : Int32) (s1 : Option Nat) (s2 : Option Nat) (s3 : Int32) (s4 : Option Nat) (s5 : Int32) : Prop :=
    wnn s1 (fun b20 =>
    wob w b20 [20] ∧
    wp_X0_walked w b20 s2 s3 s4 s5 (fun v18 w19 =>
    wgF w19 v18 [22] 200 (fun v21 =>
    if v21 = l4 then (
      L78 w19 a0 l3 l4 l5 l7 l8 l9 (s0 ||| (1 <<< (l11 &&& 31))) (l11 + 1)
    ) else (
      L78 w19 a0 l3 l4 l5 l7 l8 l9 (s0 ||| 0) (l11 + 1)
    ))))
def wb_X0_kinds_115 (k : Int32 → Wd → Prop) (L78 : Wd → Nat → Int32 → Int32 → Int32 → Option Nat → Option Nat → Int32 → Int32 → Int32 → Prop) (w : Wd) (a0 : Nat) (l3 : Int32) (l4 : Int32) (l5 : Int32) (l7 : Option Nat) (l8 : Option Nat) (l9 : Int32) (l10 : Int32) (l11 : Int32) (s0 : Option Nat) : Prop :=
    if l5 = 0 then (
      wgG w (some a0) [20] 0 (fun v22 =>
      wgG w v22 [21] 105 (fun v23 =>
      wld w v23 0 0 (fun v24 =>
      wb_X0_kinds_145 k L78 w a0 l3 l4 l5 l7 l8 l9 l11 l10 (some a0) s0 l9 l7 v24)))
    ) else (
      wb_X0_kinds_145 k L78 w a0 l3 l4 l5 l7 l8 l9 l11 l10 (some a0) s0 l9 l7 l11
    )
def wb_X0_kinds_91 (k : Int32 → Wd → Prop) (L78 : Wd → Nat → Int32 → Int32 → Int32 → Option Nat → Option Nat → Int32 → Int32 → Int32 → Prop) (w : Wd) (a0 : Nat) (l3 : Int32) (l4 : Int32) (l5 : Int32) (l7 : Option Nat) (l8 : Option Nat) (l9 : Int32) (l10 : Int32) (l11 : Int32) (s0 : Int32) (s1 : Int32) : Prop :=
    if s1 ≤ s0 then (
      k l10 w
    ) else (
      if l5 = 0 then (
        wgF w l8 [26, 27, 28, 29, 30, 31] 601 (fun v25 =>
        wp_X0_made w l11 l3 v25 (fun v26 w27 =>
        wb_X0_kinds_115 k L78 w27 a0 l3 l4 l5 l7 l8 l9 l10 l11 v26))
      ) else (
        wb_X0_kinds_115 k L78 w a0 l3 l4 l5 l7 l8 l9 l10 l11 l8
      )
    )
def wb_X0_kinds_78 (k : Int32 → Wd → Prop) (L78 : Wd → Nat → Int32 → Int32 → Int32 → Option Nat → Option Nat → Int32 → Int32 → Int32 → Prop) (w : Wd) (a0 : Nat) (l3 : Int32) (l4 : Int32) (l5 : Int32) (l7 : Option Nat) (l8 : Option Nat) (l9 : Int32) (l10 : Int32) (l11 : Int32) : Prop :=
    if l5 = 0 then (
      wb_X0_kinds_91 k L78 w a0 l3 l4 l5 l7 l8 l9 l10 l11 l11 6
    ) else (
      wb_X0_kinds_91 k L78 w a0 l3 l4 l5 l7 l8 l9 l10 l11 l11 2
    )
def wl_X0_kinds_78 (k : Int32 → Wd → Prop) (n : Nat) : Wd → Nat → Int32 → Int32 → Int32 → Option Nat → Option Nat → Int32 → Int32 → Int32 → Prop := Nat.rec (motive := fun _ => Wd → Nat → Int32 → Int32 → Int32 → Option Nat → Option Nat → Int32 → Int32 → Int32 → Prop) (fun _ _ _ _ _ _ _ _ _ _ => False) (fun _ L => wb_X0_kinds_78 k L) n
theorem wl_X0_kinds_78_s (k : Int32 → Wd → Prop) (n : Nat) : wl_X0_kinds_78 k (n + 1) = wb_X0_kinds_78 k (wl_X0_kinds_78 k n) := rfl
theorem wl_X0_kinds_78_0 (k : Int32 → Wd → Prop) : wl_X0_kinds_78 k 0 = fun _ _ _ _ _ _ _ _ _ _ => False := rfl
def wb_X0_kinds_38 (k : Int32 → Wd → Prop) (w : Wd) (a0 : Nat) (l1 : Int32) (l2 : Int32) (l3 : Int32) (l4 : Int32) (l5 : Int32) (s0 : Int32) : Prop :=
    wob w a0 [20] ∧
    wp_X0_signsIn w a0 s0 l1 l2 (fun q7 w8 => wb_X0_kinds_176 k w8 a0 (some q7)) (fun v5 w6 =>
    wgG w6 (some a0) [20] 0 (fun v12 =>
    wgG w6 v12 [21] 101 (fun v13 =>
    wldQ w6 v13 6 l3 (fun v14 =>
    wgG w6 (some a0) [20] 0 (fun v15 =>
    wgG w6 v15 [21] 102 (fun v16 =>
    wld w6 v16 0 l3 (fun v17 =>
    wl_X0_kinds_78 k 8 w6 a0 l3 l4 l5 v5 v14 v17 0 0)))))))
def wb_X0_kinds_37 (k : Int32 → Wd → Prop) (w : Wd) (a0 : Nat) (l1 : Int32) (l2 : Int32) (l3 : Int32) (l4 : Int32) (l5 : Int32) : Prop :=
    wb_X0_kinds_38 k w a0 l1 l2 l3 l4 l5 0
def wp_X0_kinds (w : Wd) (a0 : Nat) (a1 : Int32) (a2 : Int32) (a3 : Int32) (a4 : Int32) (a5 : Int32) (k : Int32 → Wd → Prop) : Prop :=
  wgG w (some a0) [20] 0 (fun v1 =>
  wnn v1 (fun b4 =>
  wob w b4 [21] ∧
  wp_X1_isPerson w b4 a3 (fun v2 w3 =>
  if v2 = 0 then (
    wb_X0_kinds_37 k w3 a0 a1 a2 a3 a4 a5
  ) else (
    wgG w3 (some a0) [20] 0 (fun v28 =>
    wnn v28 (fun b31 =>
    wob w3 b31 [21] ∧
    wp_X1_isCell w3 b31 a4 (fun v29 w30 =>
    if v29 = 0 then (
      wb_X0_kinds_37 k w30 a0 a1 a2 a3 a4 a5
    ) else (
      wp_X0_isIn w30 a5 0 1 (fun v32 w33 =>
      if v32 = 0 then (
        wb_X0_kinds_37 k w33 a0 a1 a2 a3 a4 a5
      ) else (
        wb_X0_kinds_38 k w33 a0 a1 a2 a3 a4 a5 1
      ))
    ))))
  ))))
def wb_X0_who_71 (k : Int32 → Wd → Prop) (w : Wd) (a0 : Nat) (s0 : Option Nat) : Prop :=
    wgF w s0 [25] 506 (fun v9 =>
    wob w a0 [20] ∧
    wp_X0_no w a0 v9 (fun v10 w11 =>
    k v10 w11))
def wb_X0_who_22 (k : Int32 → Wd → Prop) (L22 : Wd → Nat → Int32 → Option Nat → Int32 → Int32 → Prop) (w : Wd) (a0 : Nat) (l3 : Int32) (l4 : Option Nat) (l5 : Int32) (l6 : Int32) : Prop :=
    wgG w (some a0) [20] 0 (fun v12 =>
    wgF w v12 [21] 107 (fun v13 =>
    if v13 ≤ l6 then (
      k l5 w
    ) else (
      wob w a0 [20] ∧
      wp_X0_walkedBy w a0 l6 l4 (fun v14 w15 =>
      wgF w15 v14 [22] 200 (fun v16 =>
      if v16 = l3 then (
        L22 w15 a0 l3 l4 (l5 ||| (1 <<< (l6 &&& 31))) (l6 + 1)
      ) else (
        L22 w15 a0 l3 l4 (l5 ||| 0) (l6 + 1)
      )))
    )))
def wl_X0_who_22 (k : Int32 → Wd → Prop) (n : Nat) : Wd → Nat → Int32 → Option Nat → Int32 → Int32 → Prop := Nat.rec (motive := fun _ => Wd → Nat → Int32 → Option Nat → Int32 → Int32 → Prop) (fun _ _ _ _ _ _ => False) (fun _ L => wb_X0_who_22 k L) n
theorem wl_X0_who_22_s (k : Int32 → Wd → Prop) (n : Nat) : wl_X0_who_22 k (n + 1) = wb_X0_who_22 k (wl_X0_who_22 k n) := rfl
theorem wl_X0_who_22_0 (k : Int32 → Wd → Prop) : wl_X0_who_22 k 0 = fun _ _ _ _ _ _ => False := rfl
def wp_X0_who (w : Wd) (a0 : Nat) (a1 : Int32) (a2 : Int32) (a3 : Int32) (k : Int32 → Wd → Prop) : Prop :=
  wgG w (some a0) [20] 0 (fun v1 =>
  wnn v1 (fun b4 =>
  wob w b4 [21] ∧
  wp_X1_isCell w b4 a3 (fun v2 w3 =>
  wob w3 a0 [20] ∧
  wp_X0_signsIn w3 a0 v2 a1 a2 (fun q7 w8 => wb_X0_who_71 k w8 a0 (some q7)) (fun v5 w6 =>
  wl_X0_who_22 k FU w6 a0 a3 v5 0 0))))
def wb_J15_fill_5 (k : Wd → Prop) (L5 : Wd → Option Nat → Int32 → Int32 → Int32 → Prop) (w : Wd) (l0 : Option Nat) (l1 : Int32) (l2 : Int32) (l3 : Int32) : Prop :=
    if l3 ≤ l2 then (
      k w
    ) else (
      wst w l0 0 l2 l1 (fun w2 =>
      L5 w2 l0 l1 (l2 + 1) l3)
    )
def wl_J15_fill_5 (k : Wd → Prop) (n : Nat) : Wd → Option Nat → Int32 → Int32 → Int32 → Prop := Nat.rec (motive := fun _ => Wd → Option Nat → Int32 → Int32 → Int32 → Prop) (fun _ _ _ _ _ => False) (fun _ L => wb_J15_fill_5 k L) n
theorem wl_J15_fill_5_s (k : Wd → Prop) (n : Nat) : wl_J15_fill_5 k (n + 1) = wb_J15_fill_5 k (wl_J15_fill_5 k n) := rfl
theorem wl_J15_fill_5_0 (k : Wd → Prop) : wl_J15_fill_5 k 0 = fun _ _ _ _ _ => False := rfl
def wp_J15_fill (w : Wd) (a0 : Option Nat) (a1 : Int32) (k : Wd → Prop) : Prop :=
  wln w a0 (fun v1 =>
  wl_J15_fill_5 k FU w a0 a1 0 v1)
def wb_X0_crowd_145 (k : Int32 → Wd → Prop) (w : Wd) (a0 : Nat) (s0 : Option Nat) : Prop :=
    wgF w s0 [25] 506 (fun v7 =>
    wob w a0 [20] ∧
    wp_X0_no w a0 v7 (fun v8 w9 =>
    k v8 w9))
def wb_X0_crowd_89 (k : Int32 → Wd → Prop) (L89 : Wd → Nat → Int32 → Int32 → Int32 → Prop) (w : Wd) (a0 : Nat) (l3 : Int32) (l5 : Int32) (l6 : Int32) : Prop :=
    if (70 : Int32) ≤ l6 then (
      if l3 = 0 then (
        k l5 w
      ) else (
        wgG w (some a0) [20] 7 (fun v16 =>
        wld w v16 0 l5 (fun v17 =>
        k v17 w))
      )
    ) else (
      wgG w (some a0) [20] 7 (fun v18 =>
      wld w v18 0 l6 (fun v19 =>
      wgG w (some a0) [20] 7 (fun v20 =>
      wld w v20 0 l5 (fun v21 =>
      if v19 ≤ v21 then (
        L89 w a0 l3 l5 (l6 + 1)
      ) else (
        L89 w a0 l3 l6 (l6 + 1)
      )))))
    )
def wl_X0_crowd_89 (k : Int32 → Wd → Prop) (n : Nat) : Wd → Nat → Int32 → Int32 → Int32 → Prop := Nat.rec (motive := fun _ => Wd → Nat → Int32 → Int32 → Int32 → Prop) (fun _ _ _ _ _ => False) (fun _ L => wb_X0_crowd_89 k L) n
theorem wl_X0_crowd_89_s (k : Int32 → Wd → Prop) (n : Nat) : wl_X0_crowd_89 k (n + 1) = wb_X0_crowd_89 k (wl_X0_crowd_89 k n) := rfl
theorem wl_X0_crowd_89_0 (k : Int32 → Wd → Prop) : wl_X0_crowd_89 k 0 = fun _ _ _ _ _ => False := rfl
def wb_X0_crowd_45 (k : Int32 → Wd → Prop) (L45 : Wd → Nat → Int32 → Option Nat → Int32 → Prop) (w : Wd) (a0 : Nat) (l3 : Int32) (l4 : Option Nat) (l5 : Int32) : Prop :=
    wgG w (some a0) [20] 0 (fun v14 =>
    wgF w v14 [21] 107 (fun v15 =>
    if v15 ≤ l5 then (
      wl_X0_crowd_89 k FU w a0 l3 0 1
    ) else (
      wgG w (some a0) [20] 7 (fun v22 =>
      wob w a0 [20] ∧
      wp_X0_walkedBy w a0 l5 l4 (fun v23 w24 =>
      wgF w24 v23 [22] 200 (fun v25 =>
      wld w24 v22 0 v25 (fun v26 =>
      wst w24 v22 0 v25 (v26 + 1) (fun w27 =>
      L45 w27 a0 l3 l4 (l5 + 1))))))
    )))
def wl_X0_crowd_45 (k : Int32 → Wd → Prop) (n : Nat) : Wd → Nat → Int32 → Option Nat → Int32 → Prop := Nat.rec (motive := fun _ => Wd → Nat → Int32 → Option Nat → Int32 → Prop) (fun _ _ _ _ _ => False) (fun _ L => wb_X0_crowd_45 k L) n
theorem wl_X0_crowd_45_s (k : Int32 → Wd → Prop) (n : Nat) : wl_X0_crowd_45 k (n + 1) = wb_X0_crowd_45 k (wl_X0_crowd_45 k n) := rfl
theorem wl_X0_crowd_45_0 (k : Int32 → Wd → Prop) : wl_X0_crowd_45 k 0 = fun _ _ _ _ _ => False := rfl
def wp_X0_crowd (w : Wd) (a0 : Nat) (a1 : Int32) (a2 : Int32) (a3 : Int32) (k : Int32 → Wd → Prop) : Prop :=
  wp_X0_isIn w a3 0 1 (fun v1 w2 =>
  wob w2 a0 [20] ∧
  wp_X0_signsIn w2 a0 v1 a1 a2 (fun q5 w6 => wb_X0_crowd_145 k w6 a0 (some q5)) (fun v3 w4 =>
  wgG w4 (some a0) [20] 0 (fun v10 =>
  wgF w4 v10 [21] 107 (fun v11 =>
  if v11 = 0 then (
    wnew w4 25 7 (fun n28 w29 =>
    wp_X5_init w29 n28 (-5) (fun w30 =>
    wthr w30 (some n28) 25 (fun q31 => wb_X0_crowd_145 k w30 a0 (some q31))))
  ) else (
    wgG w4 (some a0) [20] 7 (fun v12 =>
    wp_J15_fill w4 v12 0 (fun w13 =>
    wl_X0_crowd_45 k FU w13 a0 a3 v3 0))
  )))))
def wb_X0_firstFall_75 (k : Int32 → Wd → Prop) (w : Wd) (a0 : Nat) (s0 : Option Nat) : Prop :=
    wgF w s0 [25] 506 (fun v5 =>
    wob w a0 [20] ∧
    wp_X0_no w a0 v5 (fun v6 w7 =>
    k v6 w7))
def wb_X0_firstFall_14 (k : Int32 → Wd → Prop) (L14 : Wd → Nat → Option Nat → Int32 → Int32 → Prop) (w : Wd) (a0 : Nat) (l3 : Option Nat) (l4 : Int32) (l5 : Int32) : Prop :=
    wgG w (some a0) [20] 0 (fun v8 =>
    wgF w v8 [21] 107 (fun v9 =>
    if v9 ≤ l5 then (
      k l4 w
    ) else (
      wob w a0 [20] ∧
      wp_X0_walkedBy w a0 l5 l3 (fun v10 w11 =>
      wgF w11 v10 [22] 206 (fun v12 =>
      if v12 = (-1) then (
        L14 w11 a0 l3 l4 (l5 + 1)
      ) else (
        if l4 = (-1) then (
          L14 w11 a0 l3 v12 (l5 + 1)
        ) else (
          if l4 ≤ v12 then (
            L14 w11 a0 l3 l4 (l5 + 1)
          ) else (
            L14 w11 a0 l3 v12 (l5 + 1)
          )
        )
      )))
    )))
def wl_X0_firstFall_14 (k : Int32 → Wd → Prop) (n : Nat) : Wd → Nat → Option Nat → Int32 → Int32 → Prop := Nat.rec (motive := fun _ => Wd → Nat → Option Nat → Int32 → Int32 → Prop) (fun _ _ _ _ _ => False) (fun _ L => wb_X0_firstFall_14 k L) n
theorem wl_X0_firstFall_14_s (k : Int32 → Wd → Prop) (n : Nat) : wl_X0_firstFall_14 k (n + 1) = wb_X0_firstFall_14 k (wl_X0_firstFall_14 k n) := rfl
theorem wl_X0_firstFall_14_0 (k : Int32 → Wd → Prop) : wl_X0_firstFall_14 k 0 = fun _ _ _ _ _ => False := rfl
def wp_X0_firstFall (w : Wd) (a0 : Nat) (a1 : Int32) (a2 : Int32) (k : Int32 → Wd → Prop) : Prop :=
  wob w a0 [20] ∧
  wp_X0_signsIn w a0 1 a1 a2 (fun q3 w4 => wb_X0_firstFall_75 k w4 a0 (some q3)) (fun v1 w2 =>
  wl_X0_firstFall_14 k FU w2 a0 v1 (-1) 0)
def wp_X2_becomes (w : Wd) (a0 : Nat) (a1 : Option Nat) (k : Option Nat → Wd → Prop) : Prop :=
  wgF w a1 [22] 200 (fun v1 =>
  wpF w (some a0) [22] 200 v1 (fun w2 =>
  wgF w2 a1 [22] 207 (fun v3 =>
  wpF w2 (some a0) [22] 207 v3 (fun w4 =>
  wgF w4 a1 [22] 201 (fun v5 =>
  wpF w4 (some a0) [22] 201 v5 (fun w6 =>
  wgF w6 a1 [22] 202 (fun v7 =>
  wpF w6 (some a0) [22] 202 v7 (fun w8 =>
  wgF w8 a1 [22] 203 (fun v9 =>
  wpF w8 (some a0) [22] 203 v9 (fun w10 =>
  wgF w10 a1 [22] 204 (fun v11 =>
  wpF w10 (some a0) [22] 204 v11 (fun w12 =>
  wgF w12 a1 [22] 205 (fun v13 =>
  wpF w12 (some a0) [22] 205 v13 (fun w14 =>
  wgF w14 a1 [22] 206 (fun v15 =>
  wpF w14 (some a0) [22] 206 v15 (fun w16 =>
  k (some a0) w16))))))))))))))))
def wb_X0_alike_112 (k : Int32 → Wd → Prop) (w : Wd) (a0 : Nat) (s0 : Option Nat) : Prop :=
    wgF w s0 [25] 506 (fun v9 =>
    wob w a0 [20] ∧
    wp_X0_no w a0 v9 (fun v10 w11 =>
    k v10 w11))
def wp_X0_alike (w : Wd) (a0 : Nat) (a1 : Int32) (a2 : Int32) (a3 : Int32) (k : Int32 → Wd → Prop) : Prop :=
  wgG w (some a0) [20] 0 (fun v1 =>
  wnn v1 (fun b4 =>
  wob w b4 [21] ∧
  wp_X1_isPerson w b4 a3 (fun v2 w3 =>
  wob w3 a0 [20] ∧
  wp_X0_signsIn w3 a0 v2 a1 a2 (fun q7 w8 => wb_X0_alike_112 k w8 a0 (some q7)) (fun v5 w6 =>
  wgG w6 (some a0) [20] 0 (fun v12 =>
  wgG w6 v12 [21] 101 (fun v13 =>
  wldQ w6 v13 6 a3 (fun v14 =>
  wgG w6 (some a0) [20] 3 (fun v15 =>
  wgG w6 (some a0) [20] 0 (fun v16 =>
  wgG w6 v16 [21] 102 (fun v17 =>
  wld w6 v17 0 a3 (fun v18 =>
  wob w6 a0 [20] ∧
  wp_X0_walked w6 a0 v14 v18 v5 0 (fun v19 w20 =>
  wnn v15 (fun b23 =>
  wob w20 b23 [22] ∧
  wp_X2_becomes w20 b23 v19 (fun v21 w22 =>
  wgG w22 (some a0) [20] 0 (fun v24 =>
  wgG w22 v24 [21] 102 (fun v25 =>
  wld w22 v25 0 a3 (fun v26 =>
  wob w22 a0 [20] ∧
  wp_X0_walked w22 a0 v14 v26 v5 1 (fun v27 w28 =>
  wgG w28 (some a0) [20] 2 (fun v29 =>
  wgF w28 v29 [22] 200 (fun v30 =>
  wgG w28 (some a0) [20] 3 (fun v31 =>
  wgF w28 v31 [22] 200 (fun v32 =>
  if v30 = v32 then (
    wgG w28 (some a0) [20] 2 (fun v33 =>
    wgF w28 v33 [22] 201 (fun v34 =>
    wgG w28 (some a0) [20] 3 (fun v35 =>
    wgF w28 v35 [22] 201 (fun v36 =>
    if v34 = v36 then (
      k 1 w28
    ) else (
      k 0 w28
    )))))
  ) else (
    k 0 w28
  )))))))))))))))))))))))
def wb_X0_differ_207 (k : Int32 → Wd → Prop) (w : Wd) (a0 : Nat) (s0 : Option Nat) : Prop :=
    wgF w s0 [25] 506 (fun v10 =>
    wob w a0 [20] ∧
    wp_X0_no w a0 v10 (fun v11 w12 =>
    k v11 w12))
def wb_X0_differ_83 (k : Int32 → Wd → Prop) (L83 : Wd → Nat → Int32 → Int32 → Int32 → Option Nat → Int32 → Prop) (w : Wd) (a0 : Nat) (l2 : Int32) (l3 : Int32) (l4 : Int32) (l5 : Option Nat) (l6 : Int32) : Prop :=
    if l2 ≤ l6 then (
      k (-1) w
    ) else (
      wgG w (some a0) [20] 2 (fun v28 =>
      wgG w (some a0) [20] 0 (fun v29 =>
      wgG w (some a0) [20] 0 (fun v30 =>
      wgG w v30 [21] 101 (fun v31 =>
      wldQ w v31 6 l3 (fun v32 =>
      wldL w l5 l6 (fun v33 =>
      wgG w (some a0) [20] 0 (fun v34 =>
      wgG w v34 [21] 105 (fun v35 =>
      wld w v35 0 0 (fun v36 =>
      wnn v28 (fun b38 =>
      wob w b38 [22] ∧
      wp_X2_goes w b38 v29 v32 (v33.toInt32) v36 (fun w37 =>
      wgG w37 (some a0) [20] 3 (fun v39 =>
      wgG w37 (some a0) [20] 0 (fun v40 =>
      wgG w37 (some a0) [20] 0 (fun v41 =>
      wgG w37 v41 [21] 101 (fun v42 =>
      wldQ w37 v42 6 l4 (fun v43 =>
      wldL w37 l5 l6 (fun v44 =>
      wgG w37 (some a0) [20] 0 (fun v45 =>
      wgG w37 v45 [21] 105 (fun v46 =>
      wld w37 v46 0 0 (fun v47 =>
      wnn v39 (fun b49 =>
      wob w37 b49 [22] ∧
      wp_X2_goes w37 b49 v40 v43 (v44.toInt32) v47 (fun w48 =>
      wgG w48 (some a0) [20] 2 (fun v50 =>
      wgF w48 v50 [22] 200 (fun v51 =>
      wgG w48 (some a0) [20] 3 (fun v52 =>
      wgF w48 v52 [22] 200 (fun v53 =>
      if v51 = v53 then (
        wgG w48 (some a0) [20] 2 (fun v54 =>
        wgF w48 v54 [22] 201 (fun v55 =>
        wgG w48 (some a0) [20] 3 (fun v56 =>
        wgF w48 v56 [22] 201 (fun v57 =>
        if v55 = v57 then (
          L83 w48 a0 l2 l3 l4 l5 (l6 + 1)
        ) else (
          k (l6 + 1) w48
        )))))
      ) else (
        k (l6 + 1) w48
      )))))))))))))))))))))))))))
    )
def wl_X0_differ_83 (k : Int32 → Wd → Prop) (n : Nat) : Wd → Nat → Int32 → Int32 → Int32 → Option Nat → Int32 → Prop := Nat.rec (motive := fun _ => Wd → Nat → Int32 → Int32 → Int32 → Option Nat → Int32 → Prop) (fun _ _ _ _ _ _ _ => False) (fun _ L => wb_X0_differ_83 k L) n
theorem wl_X0_differ_83_s (k : Int32 → Wd → Prop) (n : Nat) : wl_X0_differ_83 k (n + 1) = wb_X0_differ_83 k (wl_X0_differ_83 k n) := rfl
theorem wl_X0_differ_83_0 (k : Int32 → Wd → Prop) : wl_X0_differ_83 k 0 = fun _ _ _ _ _ _ _ => False := rfl
def wb_X0_differ_35 (k : Int32 → Wd → Prop) (w : Wd) (a0 : Nat) (l1 : Int32) (l2 : Int32) (l3 : Int32) (l4 : Int32) (s0 : Option Nat) (s1 : Int32) : Prop :=
    wnn s0 (fun b7 =>
    wob w b7 [20] ∧
    wp_X0_signsIn w b7 s1 l1 l2 (fun q8 w9 => wb_X0_differ_207 k w9 a0 (some q8)) (fun v5 w6 =>
    wgG w6 (some a0) [20] 2 (fun v13 =>
    wgG w6 (some a0) [20] 0 (fun v14 =>
    wgG w6 v14 [21] 102 (fun v15 =>
    wld w6 v15 0 l3 (fun v16 =>
    wgG w6 (some a0) [20] 0 (fun v17 =>
    wgG w6 v17 [21] 103 (fun v18 =>
    wld w6 v18 0 l3 (fun v19 =>
    wnn v13 (fun b22 =>
    wob w6 b22 [22] ∧
    wp_X2_begins w6 b22 v16 v19 (fun v20 w21 =>
    wgG w21 (some a0) [20] 3 (fun v23 =>
    wgG w21 (some a0) [20] 2 (fun v24 =>
    wnn v23 (fun b27 =>
    wob w21 b27 [22] ∧
    wp_X2_becomes w21 b27 v24 (fun v25 w26 =>
    wl_X0_differ_83 k FU w26 a0 l2 l3 l4 v5 0)))))))))))))))
def wb_X0_differ_34 (k : Int32 → Wd → Prop) (w : Wd) (a0 : Nat) (l1 : Int32) (l2 : Int32) (l3 : Int32) (l4 : Int32) (s0 : Option Nat) : Prop :=
    wb_X0_differ_35 k w a0 l1 l2 l3 l4 s0 0
def wp_X0_differ (w : Wd) (a0 : Nat) (a1 : Int32) (a2 : Int32) (a3 : Int32) (a4 : Int32) (k : Int32 → Wd → Prop) : Prop :=
  wgG w (some a0) [20] 0 (fun v1 =>
  wnn v1 (fun b4 =>
  wob w b4 [21] ∧
  wp_X1_isPerson w b4 a3 (fun v2 w3 =>
  if v2 = 0 then (
    wb_X0_differ_34 k w3 a0 a1 a2 a3 a4 (some a0)
  ) else (
    wgG w3 (some a0) [20] 0 (fun v58 =>
    wnn v58 (fun b61 =>
    wob w3 b61 [21] ∧
    wp_X1_isPerson w3 b61 a4 (fun v59 w60 =>
    if v59 = 0 then (
      wb_X0_differ_34 k w60 a0 a1 a2 a3 a4 (some a0)
    ) else (
      if a3 = a4 then (
        wb_X0_differ_34 k w60 a0 a1 a2 a3 a4 (some a0)
      ) else (
        wb_X0_differ_35 k w60 a0 a1 a2 a3 a4 (some a0) 1
      )
    ))))
  ))))
def wb_X0_again_124 (k : Int32 → Wd → Prop) (w : Wd) (a0 : Nat) (s0 : Option Nat) : Prop :=
    wgF w s0 [25] 506 (fun v10 =>
    wob w a0 [20] ∧
    wp_X0_no w a0 v10 (fun v11 w12 =>
    k v11 w12))
def wb_X0_again_64 (k : Int32 → Wd → Prop) (L64 : Wd → Nat → Int32 → Int32 → Int32 → Option Nat → Int32 → Prop) (w : Wd) (a0 : Nat) (l2 : Int32) (l3 : Int32) (l4 : Int32) (l5 : Option Nat) (l6 : Int32) : Prop :=
    if (l4 * l2) ≤ l6 then (
      wgG w (some a0) [20] 2 (fun v23 =>
      wgF w v23 [22] 200 (fun v24 =>
      k v24 w))
    ) else (
      wgG w (some a0) [20] 2 (fun v25 =>
      wgG w (some a0) [20] 0 (fun v26 =>
      wgG w (some a0) [20] 0 (fun v27 =>
      wgG w v27 [21] 101 (fun v28 =>
      wldQ w v28 6 l3 (fun v29 =>
      (¬ l2 = 0) ∧ (
      wldL w l5 (l6 - l6 / l2 * l2) (fun v30 =>
      wgG w (some a0) [20] 0 (fun v31 =>
      wgG w v31 [21] 105 (fun v32 =>
      wld w v32 0 0 (fun v33 =>
      wnn v25 (fun b35 =>
      wob w b35 [22] ∧
      wp_X2_goes w b35 v26 v29 (v30.toInt32) v33 (fun w34 =>
      L64 w34 a0 l2 l3 l4 l5 (l6 + 1)))))))))))))
    )
def wl_X0_again_64 (k : Int32 → Wd → Prop) (n : Nat) : Wd → Nat → Int32 → Int32 → Int32 → Option Nat → Int32 → Prop := Nat.rec (motive := fun _ => Wd → Nat → Int32 → Int32 → Int32 → Option Nat → Int32 → Prop) (fun _ _ _ _ _ _ _ => False) (fun _ L => wb_X0_again_64 k L) n
theorem wl_X0_again_64_s (k : Int32 → Wd → Prop) (n : Nat) : wl_X0_again_64 k (n + 1) = wb_X0_again_64 k (wl_X0_again_64 k n) := rfl
theorem wl_X0_again_64_0 (k : Int32 → Wd → Prop) : wl_X0_again_64 k 0 = fun _ _ _ _ _ _ _ => False := rfl
def wb_X0_again_28 (k : Int32 → Wd → Prop) (w : Wd) (a0 : Nat) (l1 : Int32) (l2 : Int32) (l3 : Int32) (l4 : Int32) (s0 : Option Nat) (s1 : Int32) : Prop :=
    wnn s0 (fun b7 =>
    wob w b7 [20] ∧
    wp_X0_signsIn w b7 s1 l1 l2 (fun q8 w9 => wb_X0_again_124 k w9 a0 (some q8)) (fun v5 w6 =>
    wgG w6 (some a0) [20] 2 (fun v13 =>
    wgG w6 (some a0) [20] 0 (fun v14 =>
    wgG w6 v14 [21] 102 (fun v15 =>
    wld w6 v15 0 l3 (fun v16 =>
    wgG w6 (some a0) [20] 0 (fun v17 =>
    wgG w6 v17 [21] 103 (fun v18 =>
    wld w6 v18 0 l3 (fun v19 =>
    wnn v13 (fun b22 =>
    wob w6 b22 [22] ∧
    wp_X2_begins w6 b22 v16 v19 (fun v20 w21 =>
    wl_X0_again_64 k FU w21 a0 l2 l3 l4 v5 0)))))))))))
def wb_X0_again_27 (k : Int32 → Wd → Prop) (w : Wd) (a0 : Nat) (l1 : Int32) (l2 : Int32) (l3 : Int32) (l4 : Int32) (s0 : Option Nat) : Prop :=
    wb_X0_again_28 k w a0 l1 l2 l3 l4 s0 0
def wp_X0_again (w : Wd) (a0 : Nat) (a1 : Int32) (a2 : Int32) (a3 : Int32) (a4 : Int32) (k : Int32 → Wd → Prop) : Prop :=
  wgG w (some a0) [20] 0 (fun v1 =>
  wnn v1 (fun b4 =>
  wob w b4 [21] ∧
  wp_X1_isPerson w b4 a3 (fun v2 w3 =>
  if v2 = 0 then (
    wb_X0_again_27 k w3 a0 a1 a2 a3 a4 (some a0)
  ) else (
    wp_X0_isIn w3 a4 0 20 (fun v36 w37 =>
    if v36 = 0 then (
      wb_X0_again_27 k w37 a0 a1 a2 a3 a4 (some a0)
    ) else (
      wb_X0_again_28 k w37 a0 a1 a2 a3 a4 (some a0) 1
    ))
  ))))
def wb_X0_ring_165 (k : Int32 → Wd → Prop) (w : Wd) (a0 : Nat) (s0 : Option Nat) : Prop :=
    wgF w s0 [25] 506 (fun v9 =>
    wob w a0 [20] ∧
    wp_X0_no w a0 v9 (fun v10 w11 =>
    k v10 w11))
def wb_X0_ring_64 (k : Int32 → Wd → Prop) (L45 : Wd → Nat → Int32 → Option Nat → Int32 → Prop) (L64 : Wd → Nat → Int32 → Option Nat → Int32 → Option Nat → Int32 → Int32 → Prop) (w : Wd) (a0 : Nat) (l3 : Int32) (l4 : Option Nat) (l5 : Int32) (l6 : Option Nat) (l7 : Int32) (l8 : Int32) : Prop :=
    if l7 ≤ l8 then (
      wgG w (some a0) [20] 2 (fun v23 =>
      wgF w v23 [22] 200 (fun v24 =>
      wgG w (some a0) [20] 0 (fun v25 =>
      wgG w v25 [21] 102 (fun v26 =>
      wld w v26 0 l3 (fun v27 =>
      if v24 = v27 then (
        wgG w (some a0) [20] 2 (fun v28 =>
        wgF w v28 [22] 201 (fun v29 =>
        wgG w (some a0) [20] 0 (fun v30 =>
        wgG w v30 [21] 103 (fun v31 =>
        wld w v31 0 l3 (fun v32 =>
        if v29 = v32 then (
          k l5 w
        ) else (
          L45 w a0 l3 l4 (l5 + 1)
        ))))))
      ) else (
        L45 w a0 l3 l4 (l5 + 1)
      ))))))
    ) else (
      wldL w l6 l8 (fun v33 =>
      wgG w (some a0) [20] 2 (fun v34 =>
      wgG w (some a0) [20] 0 (fun v35 =>
      wgG w (some a0) [20] 0 (fun v36 =>
      wgG w v36 [21] 101 (fun v37 =>
      wldQ w v37 6 l3 (fun v38 =>
      wgG w (some a0) [20] 0 (fun v39 =>
      wgG w v39 [21] 105 (fun v40 =>
      wld w v40 0 0 (fun v41 =>
      wnn v34 (fun b43 =>
      wob w b43 [22] ∧
      wp_X2_goes w b43 v35 v38 (v33.toInt32) v41 (fun w42 =>
      L64 w42 a0 l3 l4 l5 l6 l7 (l8 + 1))))))))))))
    )
def wl_X0_ring_64 (k : Int32 → Wd → Prop) (L45 : Wd → Nat → Int32 → Option Nat → Int32 → Prop) (n : Nat) : Wd → Nat → Int32 → Option Nat → Int32 → Option Nat → Int32 → Int32 → Prop := Nat.rec (motive := fun _ => Wd → Nat → Int32 → Option Nat → Int32 → Option Nat → Int32 → Int32 → Prop) (fun _ _ _ _ _ _ _ _ => False) (fun _ L => wb_X0_ring_64 k L45 L) n
theorem wl_X0_ring_64_s (k : Int32 → Wd → Prop) (L45 : Wd → Nat → Int32 → Option Nat → Int32 → Prop) (n : Nat) : wl_X0_ring_64 k L45 (n + 1) = wb_X0_ring_64 k L45 (wl_X0_ring_64 k L45 n) := rfl
theorem wl_X0_ring_64_0 (k : Int32 → Wd → Prop) (L45 : Wd → Nat → Int32 → Option Nat → Int32 → Prop) : wl_X0_ring_64 k L45 0 = fun _ _ _ _ _ _ _ _ => False := rfl
def wb_X0_ring_45 (k : Int32 → Wd → Prop) (L45 : Wd → Nat → Int32 → Option Nat → Int32 → Prop) (w : Wd) (a0 : Nat) (l3 : Int32) (l4 : Option Nat) (l5 : Int32) : Prop :=
    if (20 : Int32) < l5 then (
      k (-1) w
    ) else (
      wln w l4 (fun v22 =>
      wl_X0_ring_64 k L45 FU w a0 l3 l4 l5 l4 v22 0)
    )
def wl_X0_ring_45 (k : Int32 → Wd → Prop) (n : Nat) : Wd → Nat → Int32 → Option Nat → Int32 → Prop := Nat.rec (motive := fun _ => Wd → Nat → Int32 → Option Nat → Int32 → Prop) (fun _ _ _ _ _ => False) (fun _ L => wb_X0_ring_45 k L) n
theorem wl_X0_ring_45_s (k : Int32 → Wd → Prop) (n : Nat) : wl_X0_ring_45 k (n + 1) = wb_X0_ring_45 k (wl_X0_ring_45 k n) := rfl
theorem wl_X0_ring_45_0 (k : Int32 → Wd → Prop) : wl_X0_ring_45 k 0 = fun _ _ _ _ _ => False := rfl
def wp_X0_ring (w : Wd) (a0 : Nat) (a1 : Int32) (a2 : Int32) (a3 : Int32) (k : Int32 → Wd → Prop) : Prop :=
  wgG w (some a0) [20] 0 (fun v1 =>
  wnn v1 (fun b4 =>
  wob w b4 [21] ∧
  wp_X1_isPerson w b4 a3 (fun v2 w3 =>
  wob w3 a0 [20] ∧
  wp_X0_signsIn w3 a0 v2 a1 a2 (fun q7 w8 => wb_X0_ring_165 k w8 a0 (some q7)) (fun v5 w6 =>
  wgG w6 (some a0) [20] 2 (fun v12 =>
  wgG w6 (some a0) [20] 0 (fun v13 =>
  wgG w6 v13 [21] 102 (fun v14 =>
  wld w6 v14 0 a3 (fun v15 =>
  wgG w6 (some a0) [20] 0 (fun v16 =>
  wgG w6 v16 [21] 103 (fun v17 =>
  wld w6 v17 0 a3 (fun v18 =>
  wnn v12 (fun b21 =>
  wob w6 b21 [22] ∧
  wp_X2_begins w6 b21 v15 v18 (fun v19 w20 =>
  wl_X0_ring_45 k FU w20 a0 a3 v5 1)))))))))))))
def wb_X0_lonely_115 (k : Int32 → Wd → Prop) (w : Wd) (a0 : Nat) (s0 : Option Nat) : Prop :=
    wgF w s0 [25] 506 (fun v5 =>
    wob w a0 [20] ∧
    wp_X0_no w a0 v5 (fun v6 w7 =>
    k v6 w7))
def wb_X0_lonely_62 (k : Int32 → Wd → Prop) (L62 : Wd → Nat → Option Nat → Int32 → Int32 → Prop) (w : Wd) (a0 : Nat) (l3 : Option Nat) (l4 : Int32) (l5 : Int32) : Prop :=
    wgG w (some a0) [20] 0 (fun v12 =>
    wgF w v12 [21] 107 (fun v13 =>
    if v13 ≤ l5 then (
      k l4 w
    ) else (
      wgG w (some a0) [20] 7 (fun v14 =>
      wob w a0 [20] ∧
      wp_X0_walkedBy w a0 l5 l3 (fun v15 w16 =>
      wgF w16 v15 [22] 200 (fun v17 =>
      wld w16 v14 0 v17 (fun v18 =>
      if v18 = 1 then (
        L62 w16 a0 l3 (l4 ||| (1 <<< (l5 &&& 31))) (l5 + 1)
      ) else (
        L62 w16 a0 l3 (l4 ||| 0) (l5 + 1)
      )))))
    )))
def wl_X0_lonely_62 (k : Int32 → Wd → Prop) (n : Nat) : Wd → Nat → Option Nat → Int32 → Int32 → Prop := Nat.rec (motive := fun _ => Wd → Nat → Option Nat → Int32 → Int32 → Prop) (fun _ _ _ _ _ => False) (fun _ L => wb_X0_lonely_62 k L) n
theorem wl_X0_lonely_62_s (k : Int32 → Wd → Prop) (n : Nat) : wl_X0_lonely_62 k (n + 1) = wb_X0_lonely_62 k (wl_X0_lonely_62 k n) := rfl
theorem wl_X0_lonely_62_0 (k : Int32 → Wd → Prop) : wl_X0_lonely_62 k 0 = fun _ _ _ _ _ => False := rfl
def wb_X0_lonely_19 (k : Int32 → Wd → Prop) (L19 : Wd → Nat → Option Nat → Int32 → Prop) (w : Wd) (a0 : Nat) (l3 : Option Nat) (l4 : Int32) : Prop :=
    wgG w (some a0) [20] 0 (fun v10 =>
    wgF w v10 [21] 107 (fun v11 =>
    if v11 ≤ l4 then (
      wl_X0_lonely_62 k FU w a0 l3 0 0
    ) else (
      wgG w (some a0) [20] 7 (fun v19 =>
      wob w a0 [20] ∧
      wp_X0_walkedBy w a0 l4 l3 (fun v20 w21 =>
      wgF w21 v20 [22] 200 (fun v22 =>
      wld w21 v19 0 v22 (fun v23 =>
      wst w21 v19 0 v22 (v23 + 1) (fun w24 =>
      L19 w24 a0 l3 (l4 + 1))))))
    )))
def wl_X0_lonely_19 (k : Int32 → Wd → Prop) (n : Nat) : Wd → Nat → Option Nat → Int32 → Prop := Nat.rec (motive := fun _ => Wd → Nat → Option Nat → Int32 → Prop) (fun _ _ _ _ => False) (fun _ L => wb_X0_lonely_19 k L) n
theorem wl_X0_lonely_19_s (k : Int32 → Wd → Prop) (n : Nat) : wl_X0_lonely_19 k (n + 1) = wb_X0_lonely_19 k (wl_X0_lonely_19 k n) := rfl
theorem wl_X0_lonely_19_0 (k : Int32 → Wd → Prop) : wl_X0_lonely_19 k 0 = fun _ _ _ _ => False := rfl
def wp_X0_lonely (w : Wd) (a0 : Nat) (a1 : Int32) (a2 : Int32) (k : Int32 → Wd → Prop) : Prop :=
  wob w a0 [20] ∧
  wp_X0_signsIn w a0 1 a1 a2 (fun q3 w4 => wb_X0_lonely_115 k w4 a0 (some q3)) (fun v1 w2 =>
  wgG w2 (some a0) [20] 7 (fun v8 =>
  wp_J15_fill w2 v8 0 (fun w9 =>
  wl_X0_lonely_19 k FU w9 a0 v1 0)))
def wb_X0_idle_139 (k : Int32 → Wd → Prop) (w : Wd) (a0 : Nat) (s0 : Option Nat) : Prop :=
    wgF w s0 [25] 506 (fun v9 =>
    wob w a0 [20] ∧
    wp_X0_no w a0 v9 (fun v10 w11 =>
    k v10 w11))
def wb_X0_idle_57 (k : Int32 → Wd → Prop) (L57 : Wd → Nat → Int32 → Int32 → Option Nat → Int32 → Int32 → Prop) (w : Wd) (a0 : Nat) (l3 : Int32) (l5 : Int32) (l6 : Option Nat) (l7 : Int32) (l8 : Int32) : Prop :=
    if l7 ≤ l8 then (
      k l5 w
    ) else (
      wldL w l6 l8 (fun v23 =>
      wgG w (some a0) [20] 2 (fun v24 =>
      wgG w (some a0) [20] 0 (fun v25 =>
      wgG w (some a0) [20] 0 (fun v26 =>
      wgG w v26 [21] 101 (fun v27 =>
      wldQ w v27 6 l3 (fun v28 =>
      wgG w (some a0) [20] 0 (fun v29 =>
      wgG w v29 [21] 105 (fun v30 =>
      wld w v30 0 0 (fun v31 =>
      wnn v24 (fun b33 =>
      wob w b33 [22] ∧
      wp_X2_goes w b33 v25 v28 (v23.toInt32) v31 (fun w32 =>
      wgG w32 (some a0) [20] 2 (fun v34 =>
      wgF w32 v34 [22] 200 (fun v35 =>
      wgG w32 (some a0) [20] 2 (fun v36 =>
      wgF w32 v36 [22] 207 (fun v37 =>
      if v35 = v37 then (
        L57 w32 a0 l3 (l5 + 1) l6 l7 (l8 + 1)
      ) else (
        L57 w32 a0 l3 (l5 + 0) l6 l7 (l8 + 1)
      ))))))))))))))))
    )
def wl_X0_idle_57 (k : Int32 → Wd → Prop) (n : Nat) : Wd → Nat → Int32 → Int32 → Option Nat → Int32 → Int32 → Prop := Nat.rec (motive := fun _ => Wd → Nat → Int32 → Int32 → Option Nat → Int32 → Int32 → Prop) (fun _ _ _ _ _ _ _ => False) (fun _ L => wb_X0_idle_57 k L) n
theorem wl_X0_idle_57_s (k : Int32 → Wd → Prop) (n : Nat) : wl_X0_idle_57 k (n + 1) = wb_X0_idle_57 k (wl_X0_idle_57 k n) := rfl
theorem wl_X0_idle_57_0 (k : Int32 → Wd → Prop) : wl_X0_idle_57 k 0 = fun _ _ _ _ _ _ _ => False := rfl
def wp_X0_idle (w : Wd) (a0 : Nat) (a1 : Int32) (a2 : Int32) (a3 : Int32) (k : Int32 → Wd → Prop) : Prop :=
  wgG w (some a0) [20] 0 (fun v1 =>
  wnn v1 (fun b4 =>
  wob w b4 [21] ∧
  wp_X1_isPerson w b4 a3 (fun v2 w3 =>
  wob w3 a0 [20] ∧
  wp_X0_signsIn w3 a0 v2 a1 a2 (fun q7 w8 => wb_X0_idle_139 k w8 a0 (some q7)) (fun v5 w6 =>
  wgG w6 (some a0) [20] 2 (fun v12 =>
  wgG w6 (some a0) [20] 0 (fun v13 =>
  wgG w6 v13 [21] 102 (fun v14 =>
  wld w6 v14 0 a3 (fun v15 =>
  wgG w6 (some a0) [20] 0 (fun v16 =>
  wgG w6 v16 [21] 103 (fun v17 =>
  wld w6 v17 0 a3 (fun v18 =>
  wnn v12 (fun b21 =>
  wob w6 b21 [22] ∧
  wp_X2_begins w6 b21 v15 v18 (fun v19 w20 =>
  wln w20 v5 (fun v22 =>
  wl_X0_idle_57 k FU w20 a0 a3 0 v5 v22 0))))))))))))))
def wb_X0_lefts_53 (k : Int32 → Wd → Prop) (L53 : Wd → Nat → Int32 → Int32 → Int32 → Prop) (w : Wd) (a0 : Nat) (l1 : Int32) (l2 : Int32) (l3 : Int32) : Prop :=
    if (20 : Int32) < l3 then (
      k (-1) w
    ) else (
      wgG w (some a0) [20] 2 (fun v19 =>
      wgF w v19 [22] 201 (fun v20 =>
      if v20 = l2 then (
        k l3 w
      ) else (
        wgG w (some a0) [20] 2 (fun v21 =>
        wgG w (some a0) [20] 0 (fun v22 =>
        wgG w (some a0) [20] 0 (fun v23 =>
        wgG w v23 [21] 101 (fun v24 =>
        wldQ w v24 6 l1 (fun v25 =>
        wgG w (some a0) [20] 0 (fun v26 =>
        wgG w v26 [21] 105 (fun v27 =>
        wld w v27 0 0 (fun v28 =>
        wnn v21 (fun b30 =>
        wob w b30 [22] ∧
        wp_X2_goes w b30 v22 v25 1 v28 (fun w29 =>
        L53 w29 a0 l1 l2 (l3 + 1)))))))))))
      )))
    )
def wl_X0_lefts_53 (k : Int32 → Wd → Prop) (n : Nat) : Wd → Nat → Int32 → Int32 → Int32 → Prop := Nat.rec (motive := fun _ => Wd → Nat → Int32 → Int32 → Int32 → Prop) (fun _ _ _ _ _ => False) (fun _ L => wb_X0_lefts_53 k L) n
theorem wl_X0_lefts_53_s (k : Int32 → Wd → Prop) (n : Nat) : wl_X0_lefts_53 k (n + 1) = wb_X0_lefts_53 k (wl_X0_lefts_53 k n) := rfl
theorem wl_X0_lefts_53_0 (k : Int32 → Wd → Prop) : wl_X0_lefts_53 k 0 = fun _ _ _ _ _ => False := rfl
def wp_X0_lefts (w : Wd) (a0 : Nat) (a1 : Int32) (a2 : Int32) (k : Int32 → Wd → Prop) : Prop :=
  wgG w (some a0) [20] 0 (fun v1 =>
  wnn v1 (fun b4 =>
  wob w b4 [21] ∧
  wp_X1_isPerson w b4 a1 (fun v2 w3 =>
  if v2 = 0 then (
    wob w3 a0 [20] ∧
    wp_X0_no w3 a0 (-2) (fun v5 w6 =>
    k v5 w6)
  ) else (
    wp_X0_isFaced w3 a2 (fun v7 w8 =>
    if v7 = 0 then (
      wob w8 a0 [20] ∧
      wp_X0_no w8 a0 (-2) (fun v31 w32 =>
      k v31 w32)
    ) else (
      wgG w8 (some a0) [20] 2 (fun v9 =>
      wgG w8 (some a0) [20] 0 (fun v10 =>
      wgG w8 v10 [21] 102 (fun v11 =>
      wld w8 v11 0 a1 (fun v12 =>
      wgG w8 (some a0) [20] 0 (fun v13 =>
      wgG w8 v13 [21] 103 (fun v14 =>
      wld w8 v14 0 a1 (fun v15 =>
      wnn v9 (fun b18 =>
      wob w8 b18 [22] ∧
      wp_X2_begins w8 b18 v12 v15 (fun v16 w17 =>
      wl_X0_lefts_53 k FU w17 a0 a1 a2 0)))))))))
    ))
  ))))
def wb_X0_marks_32 (REC : Wd → Nat → Option Nat → Int32 → Int32 → (Wd → Prop) → Prop) (k : Wd → Prop) (L32 : Wd → Nat → Option Nat → Int32 → Int32 → Int32 → Prop) (w : Wd) (a0 : Nat) (l1 : Option Nat) (l2 : Int32) (l3 : Int32) (l4 : Int32) : Prop :=
    if (2 : Int32) < l4 then (
      k w
    ) else (
      if l3 ≤ l2 then (
        k w
      ) else (
        wgG w (some a0) [20] 4 (fun v9 =>
        wldQ w v9 7 (l2 + 1) (fun v10 =>
        wgG w (some a0) [20] 4 (fun v11 =>
        wldQ w v11 7 l2 (fun v12 =>
        wnn v10 (fun b15 =>
        wob w b15 [22] ∧
        wp_X2_becomes w b15 v12 (fun v13 w14 =>
        wgG w14 (some a0) [20] 0 (fun v16 =>
        wgG w14 (some a0) [20] 0 (fun v17 =>
        wgG w14 v17 [21] 105 (fun v18 =>
        wld w14 v18 0 0 (fun v19 =>
        wnn v13 (fun b21 =>
        wob w14 b21 [22] ∧
        wp_X2_goes w14 b21 v16 l1 l4 v19 (fun w20 =>
        wob w20 a0 [20] ∧
        REC w20 a0 l1 (l2 + 1) l3 (fun w22 =>
        L32 w22 a0 l1 l2 l3 (l4 + 1))))))))))))))
      )
    )
def wl_X0_marks_32 (REC : Wd → Nat → Option Nat → Int32 → Int32 → (Wd → Prop) → Prop) (k : Wd → Prop) (n : Nat) : Wd → Nat → Option Nat → Int32 → Int32 → Int32 → Prop := Nat.rec (motive := fun _ => Wd → Nat → Option Nat → Int32 → Int32 → Int32 → Prop) (fun _ _ _ _ _ _ => False) (fun _ L => wb_X0_marks_32 REC k L) n
theorem wl_X0_marks_32_s (REC : Wd → Nat → Option Nat → Int32 → Int32 → (Wd → Prop) → Prop) (k : Wd → Prop) (n : Nat) : wl_X0_marks_32 REC k (n + 1) = wb_X0_marks_32 REC k (wl_X0_marks_32 REC k n) := rfl
theorem wl_X0_marks_32_0 (REC : Wd → Nat → Option Nat → Int32 → Int32 → (Wd → Prop) → Prop) (k : Wd → Prop) : wl_X0_marks_32 REC k 0 = fun _ _ _ _ _ _ => False := rfl
def wp_X0_marks_b (REC : Wd → Nat → Option Nat → Int32 → Int32 → (Wd → Prop) → Prop) (w : Wd) (a0 : Nat) (a1 : Option Nat) (a2 : Int32) (a3 : Int32) (k : Wd → Prop) : Prop :=
  wgG w (some a0) [20] 4 (fun v1 =>
  wldQ w v1 7 a2 (fun v2 =>
  wgF w v2 [22] 206 (fun v3 =>
  if v3 = (-1) then (
    wgG w (some a0) [20] 7 (fun v4 =>
    wgG w (some a0) [20] 4 (fun v5 =>
    wldQ w v5 7 a2 (fun v6 =>
    wgF w v6 [22] 200 (fun v7 =>
    wst w v4 0 v7 1 (fun w8 =>
    wl_X0_marks_32 REC k FU w8 a0 a1 a2 a3 0)))))
  ) else (
    k w
  ))))
def wp_X0_marks (d : Nat) : Wd → Nat → Option Nat → Int32 → Int32 → (Wd → Prop) → Prop := Nat.rec (motive := fun _ => Wd → Nat → Option Nat → Int32 → Int32 → (Wd → Prop) → Prop) (fun _ _ _ _ _ _ => False) (fun _ REC => wp_X0_marks_b REC) d
theorem wp_X0_marks_s (d : Nat) : wp_X0_marks (d + 1) = wp_X0_marks_b (wp_X0_marks d) := rfl
def wb_X0_reach_95 (k : Int32 → Wd → Prop) (L95 : Wd → Int32 → Option Nat → Int32 → Int32 → Prop) (w : Wd) (l3 : Int32) (l4 : Option Nat) (l5 : Int32) (l6 : Int32) : Prop :=
    if l5 ≤ l6 then (
      k l3 w
    ) else (
      wld w l4 0 l6 (fun v28 =>
      L95 w (l3 + v28) l4 l5 (l6 + 1))
    )
def wl_X0_reach_95 (k : Int32 → Wd → Prop) (n : Nat) : Wd → Int32 → Option Nat → Int32 → Int32 → Prop := Nat.rec (motive := fun _ => Wd → Int32 → Option Nat → Int32 → Int32 → Prop) (fun _ _ _ _ _ => False) (fun _ L => wb_X0_reach_95 k L) n
theorem wl_X0_reach_95_s (k : Int32 → Wd → Prop) (n : Nat) : wl_X0_reach_95 k (n + 1) = wb_X0_reach_95 k (wl_X0_reach_95 k n) := rfl
theorem wl_X0_reach_95_0 (k : Int32 → Wd → Prop) : wl_X0_reach_95 k 0 = fun _ _ _ _ _ => False := rfl
def wp_X0_reach (w : Wd) (a0 : Nat) (a1 : Int32) (a2 : Int32) (k : Int32 → Wd → Prop) : Prop :=
  wgG w (some a0) [20] 0 (fun v1 =>
  wnn v1 (fun b4 =>
  wob w b4 [21] ∧
  wp_X1_isPerson w b4 a1 (fun v2 w3 =>
  if v2 = 0 then (
    wob w3 a0 [20] ∧
    wp_X0_no w3 a0 (-2) (fun v5 w6 =>
    k v5 w6)
  ) else (
    wp_X0_isIn w3 a2 0 6 (fun v7 w8 =>
    if v7 = 0 then (
      wob w8 a0 [20] ∧
      wp_X0_no w8 a0 (-2) (fun v29 w30 =>
      k v29 w30)
    ) else (
      wgG w8 (some a0) [20] 7 (fun v9 =>
      wp_J15_fill w8 v9 0 (fun w10 =>
      wgG w10 (some a0) [20] 4 (fun v11 =>
      wldQ w10 v11 7 0 (fun v12 =>
      wgG w10 (some a0) [20] 0 (fun v13 =>
      wgG w10 v13 [21] 102 (fun v14 =>
      wld w10 v14 0 a1 (fun v15 =>
      wgG w10 (some a0) [20] 0 (fun v16 =>
      wgG w10 v16 [21] 103 (fun v17 =>
      wld w10 v17 0 a1 (fun v18 =>
      wnn v12 (fun b21 =>
      wob w10 b21 [22] ∧
      wp_X2_begins w10 b21 v15 v18 (fun v19 w20 =>
      wgG w20 (some a0) [20] 0 (fun v22 =>
      wgG w20 v22 [21] 101 (fun v23 =>
      wldQ w20 v23 6 a1 (fun v24 =>
      wob w20 a0 [20] ∧
      wp_X0_marks 8 w20 a0 v24 0 a2 (fun w25 =>
      wgG w25 (some a0) [20] 7 (fun v26 =>
      wln w25 v26 (fun v27 =>
      wl_X0_reach_95 k FU w25 0 v26 v27 0))))))))))))))))))
    ))
  ))))
def wb_X0_open_38 (k : Int32 → Wd → Prop) (L38 : Wd → Nat → Int32 → Int32 → Int32 → Prop) (w : Wd) (a0 : Nat) (l2 : Int32) (l3 : Int32) (l4 : Int32) : Prop :=
    if l4 = (-1) then (
      k l3 w
    ) else (
      wgG w (some a0) [20] 0 (fun v13 =>
      wnn v13 (fun b16 =>
      wob w b16 [21] ∧
      wp_X1_isPond w b16 l4 (fun v14 w15 =>
      if v14 = 0 then (
        wgG w15 (some a0) [20] 0 (fun v17 =>
        wnn v17 (fun b20 =>
        wob w15 b20 [21] ∧
        wp_X1_ahead w15 b20 l4 l2 (fun v18 w19 =>
        L38 w19 a0 l2 (l3 + 1) v18)))
      ) else (
        k l3 w15
      ))))
    )
def wl_X0_open_38 (k : Int32 → Wd → Prop) (n : Nat) : Wd → Nat → Int32 → Int32 → Int32 → Prop := Nat.rec (motive := fun _ => Wd → Nat → Int32 → Int32 → Int32 → Prop) (fun _ _ _ _ _ => False) (fun _ L => wb_X0_open_38 k L) n
theorem wl_X0_open_38_s (k : Int32 → Wd → Prop) (n : Nat) : wl_X0_open_38 k (n + 1) = wb_X0_open_38 k (wl_X0_open_38 k n) := rfl
theorem wl_X0_open_38_0 (k : Int32 → Wd → Prop) : wl_X0_open_38 k 0 = fun _ _ _ _ _ => False := rfl
def wp_X0_open (w : Wd) (a0 : Nat) (a1 : Int32) (a2 : Int32) (k : Int32 → Wd → Prop) : Prop :=
  wgG w (some a0) [20] 0 (fun v1 =>
  wnn v1 (fun b4 =>
  wob w b4 [21] ∧
  wp_X1_isCell w b4 a1 (fun v2 w3 =>
  if v2 = 0 then (
    wob w3 a0 [20] ∧
    wp_X0_no w3 a0 (-2) (fun v5 w6 =>
    k v5 w6)
  ) else (
    wp_X0_isFaced w3 a2 (fun v7 w8 =>
    if v7 = 0 then (
      wob w8 a0 [20] ∧
      wp_X0_no w8 a0 (-2) (fun v21 w22 =>
      k v21 w22)
    ) else (
      wgG w8 (some a0) [20] 0 (fun v9 =>
      wnn v9 (fun b12 =>
      wob w8 b12 [21] ∧
      wp_X1_ahead w8 b12 a1 a2 (fun v10 w11 =>
      wl_X0_open_38 k FU w11 a0 a2 0 v10)))
    ))
  ))))
def wb_X0_shore_4 (k : Int32 → Wd → Prop) (L4 : Wd → Nat → Int32 → Int32 → Prop) (w : Wd) (a0 : Nat) (l1 : Int32) (l2 : Int32) : Prop :=
    if (70 : Int32) ≤ l2 then (
      k l1 w
    ) else (
      wgG w (some a0) [20] 0 (fun v1 =>
      wnn v1 (fun b4 =>
      wob w b4 [21] ∧
      wp_X1_isCell w b4 l2 (fun v2 w3 =>
      if v2 = 0 then (
        L4 w3 a0 (l1 + 0) (l2 + 1)
      ) else (
        wgG w3 (some a0) [20] 0 (fun v5 =>
        wnn v5 (fun b8 =>
        wob w3 b8 [21] ∧
        wp_X1_isPond w3 b8 l2 (fun v6 w7 =>
        if v6 = 0 then (
          wgG w7 (some a0) [20] 0 (fun v9 =>
          wnn v9 (fun b12 =>
          wob w7 b12 [21] ∧
          wp_X1_isByPond w7 b12 l2 (fun v10 w11 =>
          if v10 = 0 then (
            L4 w11 a0 (l1 + 0) (l2 + 1)
          ) else (
            L4 w11 a0 (l1 + 1) (l2 + 1)
          ))))
        ) else (
          L4 w7 a0 (l1 + 0) (l2 + 1)
        ))))
      ))))
    )
def wl_X0_shore_4 (k : Int32 → Wd → Prop) (n : Nat) : Wd → Nat → Int32 → Int32 → Prop := Nat.rec (motive := fun _ => Wd → Nat → Int32 → Int32 → Prop) (fun _ _ _ _ => False) (fun _ L => wb_X0_shore_4 k L) n
theorem wl_X0_shore_4_s (k : Int32 → Wd → Prop) (n : Nat) : wl_X0_shore_4 k (n + 1) = wb_X0_shore_4 k (wl_X0_shore_4 k n) := rfl
theorem wl_X0_shore_4_0 (k : Int32 → Wd → Prop) : wl_X0_shore_4 k 0 = fun _ _ _ _ => False := rfl
def wp_X0_shore (w : Wd) (a0 : Nat) (k : Int32 → Wd → Prop) : Prop :=
  wl_X0_shore_4 k FU w a0 0 0
def wb_X0_brings_178 (REC : Wd → Nat → Option Nat → Int32 → Int32 → Int32 → Int32 → (Int32 → Wd → Prop) → Prop) (k : Int32 → Wd → Prop) (L74 : Wd → Nat → Option Nat → Int32 → Int32 → Int32 → Int32 → Int32 → Prop) (w : Wd) (a0 : Nat) (l1 : Option Nat) (l2 : Int32) (l3 : Int32) (l4 : Int32) (l5 : Int32) (l6 : Int32) (s0 : Option Nat) (s1 : Option Nat) (s2 : Option Nat) (s3 : Int32) (s4 : Int32) : Prop :=
    wnn s0 (fun b34 =>
    wob w b34 [22] ∧
    wp_X2_goes w b34 s1 s2 s3 s4 (fun w33 =>
    wob w33 a0 [20] ∧
    REC w33 a0 l1 l2 l3 (l4 + 1) l5 (fun v35 w36 =>
    if v35 = 0 then (
      L74 w36 a0 l1 l2 l3 l4 l5 (l6 + 1)
    ) else (
      k 1 w36
    ))))
def wb_X0_brings_132 (REC : Wd → Nat → Option Nat → Int32 → Int32 → Int32 → Int32 → (Int32 → Wd → Prop) → Prop) (k : Int32 → Wd → Prop) (L74 : Wd → Nat → Option Nat → Int32 → Int32 → Int32 → Int32 → Int32 → Prop) (w : Wd) (a0 : Nat) (l1 : Option Nat) (l2 : Int32) (l3 : Int32) (l4 : Int32) (l5 : Int32) (l6 : Int32) (s0 : Option Nat) (s1 : Option Nat) (s2 : Option Nat) (s3 : Int32) (s4 : Int32) : Prop :=
    wnn s0 (fun b21 =>
    wob w b21 [22] ∧
    wp_X2_goes w b21 s1 s2 s3 s4 (fun w20 =>
    wgG w20 (some a0) [20] 5 (fun v22 =>
    wldQ w20 v22 7 (l4 + 1) (fun v23 =>
    wgG w20 (some a0) [20] 5 (fun v24 =>
    wldQ w20 v24 7 l4 (fun v25 =>
    wnn v23 (fun b28 =>
    wob w20 b28 [22] ∧
    wp_X2_becomes w20 b28 v25 (fun v26 w27 =>
    wgG w27 (some a0) [20] 0 (fun v29 =>
    if l3 = 0 then (
      wgG w27 (some a0) [20] 0 (fun v30 =>
      wgG w27 v30 [21] 105 (fun v31 =>
      wld w27 v31 0 0 (fun v32 =>
      wb_X0_brings_178 REC k L74 w27 a0 l1 l2 l3 l4 l5 l6 v26 v29 l1 l6 v32)))
    ) else (
      wb_X0_brings_178 REC k L74 w27 a0 l1 l2 l3 l4 l5 l6 v26 v29 l1 l6 1
    ))))))))))
def wb_X0_brings_74 (REC : Wd → Nat → Option Nat → Int32 → Int32 → Int32 → Int32 → (Int32 → Wd → Prop) → Prop) (k : Int32 → Wd → Prop) (L74 : Wd → Nat → Option Nat → Int32 → Int32 → Int32 → Int32 → Int32 → Prop) (w : Wd) (a0 : Nat) (l1 : Option Nat) (l2 : Int32) (l3 : Int32) (l4 : Int32) (l5 : Int32) (l6 : Int32) : Prop :=
    if (2 : Int32) < l6 then (
      k 0 w
    ) else (
      wgG w (some a0) [20] 6 (fun v7 =>
      wst w v7 0 l4 l6 (fun w8 =>
      wgG w8 (some a0) [20] 4 (fun v9 =>
      wldQ w8 v9 7 (l4 + 1) (fun v10 =>
      wgG w8 (some a0) [20] 4 (fun v11 =>
      wldQ w8 v11 7 l4 (fun v12 =>
      wnn v10 (fun b15 =>
      wob w8 b15 [22] ∧
      wp_X2_becomes w8 b15 v12 (fun v13 w14 =>
      wgG w14 (some a0) [20] 0 (fun v16 =>
      if l3 = 0 then (
        wgG w14 (some a0) [20] 0 (fun v17 =>
        wgG w14 v17 [21] 105 (fun v18 =>
        wld w14 v18 0 0 (fun v19 =>
        wb_X0_brings_132 REC k L74 w14 a0 l1 l2 l3 l4 l5 l6 v13 v16 l1 l6 v19)))
      ) else (
        wb_X0_brings_132 REC k L74 w14 a0 l1 l2 l3 l4 l5 l6 v13 v16 l1 l6 0
      ))))))))))
    )
def wl_X0_brings_74 (REC : Wd → Nat → Option Nat → Int32 → Int32 → Int32 → Int32 → (Int32 → Wd → Prop) → Prop) (k : Int32 → Wd → Prop) (n : Nat) : Wd → Nat → Option Nat → Int32 → Int32 → Int32 → Int32 → Int32 → Prop := Nat.rec (motive := fun _ => Wd → Nat → Option Nat → Int32 → Int32 → Int32 → Int32 → Int32 → Prop) (fun _ _ _ _ _ _ _ _ => False) (fun _ L => wb_X0_brings_74 REC k L) n
theorem wl_X0_brings_74_s (REC : Wd → Nat → Option Nat → Int32 → Int32 → Int32 → Int32 → (Int32 → Wd → Prop) → Prop) (k : Int32 → Wd → Prop) (n : Nat) : wl_X0_brings_74 REC k (n + 1) = wb_X0_brings_74 REC k (wl_X0_brings_74 REC k n) := rfl
theorem wl_X0_brings_74_0 (REC : Wd → Nat → Option Nat → Int32 → Int32 → Int32 → Int32 → (Int32 → Wd → Prop) → Prop) (k : Int32 → Wd → Prop) : wl_X0_brings_74 REC k 0 = fun _ _ _ _ _ _ _ _ => False := rfl
def wp_X0_brings_b (REC : Wd → Nat → Option Nat → Int32 → Int32 → Int32 → Int32 → (Int32 → Wd → Prop) → Prop) (w : Wd) (a0 : Nat) (a1 : Option Nat) (a2 : Int32) (a3 : Int32) (a4 : Int32) (a5 : Int32) (k : Int32 → Wd → Prop) : Prop :=
  wgG w (some a0) [20] 4 (fun v1 =>
  wldQ w v1 7 a4 (fun v2 =>
  wgF w v2 [22] 206 (fun v3 =>
  if v3 = (-1) then (
    wgG w (some a0) [20] 5 (fun v4 =>
    wldQ w v4 7 a4 (fun v5 =>
    wgF w v5 [22] 206 (fun v6 =>
    if v6 = (-1) then (
      if a4 = a5 then (
        wgG w (some a0) [20] 4 (fun v37 =>
        wldQ w v37 7 a4 (fun v38 =>
        wgF w v38 [22] 200 (fun v39 =>
        if v39 = a2 then (
          wgG w (some a0) [20] 5 (fun v40 =>
          wldQ w v40 7 a4 (fun v41 =>
          wgF w v41 [22] 200 (fun v42 =>
          if v42 = a2 then (
            k 1 w
          ) else (
            k 0 w
          ))))
        ) else (
          k 0 w
        ))))
      ) else (
        wl_X0_brings_74 REC k FU w a0 a1 a2 a3 a4 a5 0
      )
    ) else (
      k 0 w
    ))))
  ) else (
    k 0 w
  ))))
def wp_X0_brings (d : Nat) : Wd → Nat → Option Nat → Int32 → Int32 → Int32 → Int32 → (Int32 → Wd → Prop) → Prop := Nat.rec (motive := fun _ => Wd → Nat → Option Nat → Int32 → Int32 → Int32 → Int32 → (Int32 → Wd → Prop) → Prop) (fun _ _ _ _ _ _ _ _ => False) (fun _ REC => wp_X0_brings_b REC) d
theorem wp_X0_brings_s (d : Nat) : wp_X0_brings (d + 1) = wp_X0_brings_b (wp_X0_brings d) := rfl
def wb_X0_shortest_47 (k : Int32 → Wd → Prop) (L47 : Wd → Nat → Int32 → Int32 → Int32 → Int32 → Prop) (w : Wd) (a0 : Nat) (l1 : Int32) (l2 : Int32) (l3 : Int32) (l4 : Int32) : Prop :=
    if (6 : Int32) < l4 then (
      k (-1) w
    ) else (
      wgG w (some a0) [20] 0 (fun v19 =>
      wgG w v19 [21] 101 (fun v20 =>
      wldQ w v20 6 l1 (fun v21 =>
      wob w a0 [20] ∧
      wp_X0_brings 8 w a0 v21 l2 l3 0 l4 (fun v22 w23 =>
      if v22 = 0 then (
        L47 w23 a0 l1 l2 l3 (l4 + 1)
      ) else (
        k l4 w23
      )))))
    )
def wl_X0_shortest_47 (k : Int32 → Wd → Prop) (n : Nat) : Wd → Nat → Int32 → Int32 → Int32 → Int32 → Prop := Nat.rec (motive := fun _ => Wd → Nat → Int32 → Int32 → Int32 → Int32 → Prop) (fun _ _ _ _ _ _ => False) (fun _ L => wb_X0_shortest_47 k L) n
theorem wl_X0_shortest_47_s (k : Int32 → Wd → Prop) (n : Nat) : wl_X0_shortest_47 k (n + 1) = wb_X0_shortest_47 k (wl_X0_shortest_47 k n) := rfl
theorem wl_X0_shortest_47_0 (k : Int32 → Wd → Prop) : wl_X0_shortest_47 k 0 = fun _ _ _ _ _ _ => False := rfl
def wp_X0_shortest (w : Wd) (a0 : Nat) (a1 : Int32) (a2 : Int32) (a3 : Int32) (k : Int32 → Wd → Prop) : Prop :=
  wgG w (some a0) [20] 4 (fun v1 =>
  wldQ w v1 7 0 (fun v2 =>
  wgG w (some a0) [20] 0 (fun v3 =>
  wgG w v3 [21] 102 (fun v4 =>
  wld w v4 0 a1 (fun v5 =>
  wgG w (some a0) [20] 0 (fun v6 =>
  wgG w v6 [21] 103 (fun v7 =>
  wld w v7 0 a1 (fun v8 =>
  wnn v2 (fun b11 =>
  wob w b11 [22] ∧
  wp_X2_begins w b11 v5 v8 (fun v9 w10 =>
  wgG w10 (some a0) [20] 5 (fun v12 =>
  wldQ w10 v12 7 0 (fun v13 =>
  wgG w10 (some a0) [20] 4 (fun v14 =>
  wldQ w10 v14 7 0 (fun v15 =>
  wnn v13 (fun b18 =>
  wob w10 b18 [22] ∧
  wp_X2_becomes w10 b18 v15 (fun v16 w17 =>
  wl_X0_shortest_47 k FU w17 a0 a1 a2 a3 0))))))))))))))))
def wb_X0_safe_56 (k : Int32 → Wd → Prop) (w : Wd) (a0 : Nat) (l4 : Int32) (s0 : Option Nat) (s1 : Int32) (s2 : Int32) (s3 : Int32) : Prop :=
    wnn s0 (fun b19 =>
    wob w b19 [20] ∧
    wp_X0_shortest w b19 s1 s2 s3 (fun v17 w18 =>
    if l4 = (-1) then (
      k v17 w18
    ) else (
      if v17 ≤ l4 then (
        wob w18 a0 [20] ∧
        wp_X0_no w18 a0 (-5) (fun v20 w21 =>
        k v20 w21)
      ) else (
        wgG w18 (some a0) [20] 6 (fun v22 =>
        wld w18 v22 0 l4 (fun v23 =>
        k v23 w18))
      )
    )))
def wp_X0_safe (w : Wd) (a0 : Nat) (a1 : Int32) (a2 : Int32) (a3 : Int32) (a4 : Int32) (k : Int32 → Wd → Prop) : Prop :=
  wgG w (some a0) [20] 0 (fun v1 =>
  wnn v1 (fun b4 =>
  wob w b4 [21] ∧
  wp_X1_isPerson w b4 a1 (fun v2 w3 =>
  if v2 = 0 then (
    wob w3 a0 [20] ∧
    wp_X0_no w3 a0 (-2) (fun v5 w6 =>
    k v5 w6)
  ) else (
    wgG w3 (some a0) [20] 0 (fun v7 =>
    wnn v7 (fun b10 =>
    wob w3 b10 [21] ∧
    wp_X1_isCell w3 b10 a2 (fun v8 w9 =>
    if v8 = 0 then (
      wob w9 a0 [20] ∧
      wp_X0_no w9 a0 (-2) (fun v11 w12 =>
      k v11 w12)
    ) else (
      wp_X0_isIn w9 a3 0 1 (fun v13 w14 =>
      if v13 = 0 then (
        wob w14 a0 [20] ∧
        wp_X0_no w14 a0 (-2) (fun v15 w16 =>
        k v15 w16)
      ) else (
        if ((-1) : Int32) ≤ a4 then (
          if a3 = 0 then (
            wb_X0_safe_56 k w14 a0 a4 (some a0) a1 a2 1
          ) else (
            wb_X0_safe_56 k w14 a0 a4 (some a0) a1 a2 0
          )
        ) else (
          wob w14 a0 [20] ∧
          wp_X0_no w14 a0 (-2) (fun v24 w25 =>
          k v24 w25)
        )
      ))
    ))))
  ))))
def wb_X1_forOne_4 (k : Int32 → Wd → Prop) (L4 : Wd → Nat → Int32 → Int32 → Int32 → Prop) (w : Wd) (a0 : Nat) (l1 : Int32) (l2 : Int32) (l3 : Int32) : Prop :=
    wgF w (some a0) [21] 107 (fun v1 =>
    if v1 ≤ l3 then (
      k (l2 ^^^ l1) w
    ) else (
      wgG w (some a0) [21] 104 (fun v2 =>
      wld w v2 0 l3 (fun v3 =>
      if v3 = 1 then (
        L4 w a0 l1 (l2 ||| (1 <<< (l3 &&& 31))) (l3 + 1)
      ) else (
        L4 w a0 l1 (l2 ||| 0) (l3 + 1)
      )))
    ))
def wl_X1_forOne_4 (k : Int32 → Wd → Prop) (n : Nat) : Wd → Nat → Int32 → Int32 → Int32 → Prop := Nat.rec (motive := fun _ => Wd → Nat → Int32 → Int32 → Int32 → Prop) (fun _ _ _ _ _ => False) (fun _ L => wb_X1_forOne_4 k L) n
theorem wl_X1_forOne_4_s (k : Int32 → Wd → Prop) (n : Nat) : wl_X1_forOne_4 k (n + 1) = wb_X1_forOne_4 k (wl_X1_forOne_4 k n) := rfl
theorem wl_X1_forOne_4_0 (k : Int32 → Wd → Prop) : wl_X1_forOne_4 k 0 = fun _ _ _ _ _ => False := rfl
def wp_X1_forOne (w : Wd) (a0 : Nat) (a1 : Int32) (k : Int32 → Wd → Prop) : Prop :=
  wl_X1_forOne_4 k FU w a0 a1 0 0
def wp_X1_carries (w : Wd) (a0 : Nat) (a1 : Int32) (k : Int32 → Wd → Prop) : Prop :=
  wob w a0 [21] ∧
  wp_X1_forOne w a0 a1 (fun v1 w2 =>
  wob w2 a0 [21] ∧
  wp_X1_weight w2 a0 v1 (fun v3 w4 =>
  wob w4 a0 [21] ∧
  wp_X1_everybody w4 a0 (fun v5 w6 =>
  wob w6 a0 [21] ∧
  wp_X1_weight w6 a0 v5 (fun v7 w8 =>
  if ((2 * v3) - v7) ≤ 0 then (
    if (0 : Int32) ≤ ((2 * v3) - v7) then (
      wgG w8 (some a0) [21] 105 (fun v9 =>
      wld w8 v9 0 0 (fun v10 =>
      k v10 w8))
    ) else (
      k 0 w8
    )
  ) else (
    k 1 w8
  )))))
def wp_X0_carries (w : Wd) (a0 : Nat) (k : Int32 → Wd → Prop) : Prop :=
  wgG w (some a0) [20] 0 (fun v1 =>
  wnn v1 (fun b4 =>
  wob w b4 [21] ∧
  wp_X1_carries w b4 0 (fun v2 w3 =>
  k v2 w3)))
def wp_X0_bloc (w : Wd) (a0 : Nat) (a1 : Int32) (k : Int32 → Wd → Prop) : Prop :=
  wp_X0_isIn w a1 0 1 (fun v1 w2 =>
  if v1 = 0 then (
    wob w2 a0 [20] ∧
    wp_X0_no w2 a0 (-2) (fun v19 w20 =>
    k v19 w20)
  ) else (
    wgG w2 (some a0) [20] 0 (fun v3 =>
    wgG w2 (some a0) [20] 0 (fun v4 =>
    wnn v4 (fun b7 =>
    wob w2 b7 [21] ∧
    wp_X1_forOne w2 b7 0 (fun v5 w6 =>
    wnn v3 (fun b10 =>
    wob w6 b10 [21] ∧
    wp_X1_weight w6 b10 v5 (fun v8 w9 =>
    if a1 = 1 then (
      k v8 w9
    ) else (
      wgG w9 (some a0) [20] 0 (fun v11 =>
      wgG w9 (some a0) [20] 0 (fun v12 =>
      wnn v12 (fun b15 =>
      wob w9 b15 [21] ∧
      wp_X1_everybody w9 b15 (fun v13 w14 =>
      wnn v11 (fun b18 =>
      wob w14 b18 [21] ∧
      wp_X1_weight w14 b18 v13 (fun v16 w17 =>
      k (v16 - v8) w17))))))
    )))))))
  ))
def wp_X0_swing (w : Wd) (a0 : Nat) (a1 : Int32) (k : Int32 → Wd → Prop) : Prop :=
  wgG w (some a0) [20] 0 (fun v1 =>
  wnn v1 (fun b4 =>
  wob w b4 [21] ∧
  wp_X1_isPerson w b4 a1 (fun v2 w3 =>
  if v2 = 0 then (
    wob w3 a0 [20] ∧
    wp_X0_no w3 a0 (-2) (fun v13 w14 =>
    k v13 w14)
  ) else (
    wgG w3 (some a0) [20] 0 (fun v5 =>
    wnn v5 (fun b8 =>
    wob w3 b8 [21] ∧
    wp_X1_carries w3 b8 (1 <<< (a1 &&& 31)) (fun v6 w7 =>
    wgG w7 (some a0) [20] 0 (fun v9 =>
    wnn v9 (fun b12 =>
    wob w7 b12 [21] ∧
    wp_X1_carries w7 b12 0 (fun v10 w11 =>
    if v6 = v10 then (
      k 0 w11
    ) else (
      k 1 w11
    )))))))
  ))))
def wb_X0_mightiest_4 (k : Int32 → Wd → Prop) (L4 : Wd → Nat → Int32 → Int32 → Prop) (w : Wd) (a0 : Nat) (l1 : Int32) (l2 : Int32) : Prop :=
    wgG w (some a0) [20] 0 (fun v1 =>
    wgF w v1 [21] 107 (fun v2 =>
    if v2 ≤ l2 then (
      if l1 = (-1) then (
        wob w a0 [20] ∧
        wp_X0_no w a0 (-5) (fun v3 w4 =>
        k v3 w4)
      ) else (
        k l1 w
      )
    ) else (
      if l1 = (-1) then (
        L4 w a0 l2 (l2 + 1)
      ) else (
        wob w a0 [20] ∧
        wp_X0_power w a0 l2 (fun v5 w6 =>
        wob w6 a0 [20] ∧
        wp_X0_power w6 a0 l1 (fun v7 w8 =>
        if v5 ≤ v7 then (
          L4 w8 a0 l1 (l2 + 1)
        ) else (
          L4 w8 a0 l2 (l2 + 1)
        )))
      )
    )))
def wl_X0_mightiest_4 (k : Int32 → Wd → Prop) (n : Nat) : Wd → Nat → Int32 → Int32 → Prop := Nat.rec (motive := fun _ => Wd → Nat → Int32 → Int32 → Prop) (fun _ _ _ _ => False) (fun _ L => wb_X0_mightiest_4 k L) n
theorem wl_X0_mightiest_4_s (k : Int32 → Wd → Prop) (n : Nat) : wl_X0_mightiest_4 k (n + 1) = wb_X0_mightiest_4 k (wl_X0_mightiest_4 k n) := rfl
theorem wl_X0_mightiest_4_0 (k : Int32 → Wd → Prop) : wl_X0_mightiest_4 k 0 = fun _ _ _ _ => False := rfl
def wp_X0_mightiest (w : Wd) (a0 : Nat) (k : Int32 → Wd → Prop) : Prop :=
  wl_X0_mightiest_4 k FU w a0 (-1) 0
def wb_X0_agreed_4 (k : Int32 → Wd → Prop) (L4 : Wd → Nat → Int32 → Int32 → Prop) (w : Wd) (a0 : Nat) (l1 : Int32) (l2 : Int32) : Prop :=
    wgG w (some a0) [20] 0 (fun v1 =>
    wgF w v1 [21] 107 (fun v2 =>
    if v2 ≤ l2 then (
      k l1 w
    ) else (
      wgG w (some a0) [20] 2 (fun v3 =>
      wgG w (some a0) [20] 0 (fun v4 =>
      wgG w v4 [21] 102 (fun v5 =>
      wld w v5 0 l2 (fun v6 =>
      wgG w (some a0) [20] 0 (fun v7 =>
      wgG w v7 [21] 103 (fun v8 =>
      wld w v8 0 l2 (fun v9 =>
      wnn v3 (fun b12 =>
      wob w b12 [22] ∧
      wp_X2_begins w b12 v6 v9 (fun v10 w11 =>
      wgG w11 (some a0) [20] 0 (fun v13 =>
      wgG w11 v13 [21] 101 (fun v14 =>
      wldQ w11 v14 6 l2 (fun v15 =>
      wgG w11 (some a0) [20] 0 (fun v16 =>
      wgG w11 (some a0) [20] 2 (fun v17 =>
      wgG w11 (some a0) [20] 0 (fun v18 =>
      wgG w11 v18 [21] 105 (fun v19 =>
      wld w11 v19 0 0 (fun v20 =>
      wnn v15 (fun b23 =>
      wd_by w11 b23 v16 v17 1 v20 (fun v21 w22 =>
      wgG w22 (some a0) [20] 0 (fun v24 =>
      wgG w22 v24 [21] 105 (fun v25 =>
      wld w22 v25 0 0 (fun v26 =>
      if v21 = v26 then (
        L4 w22 a0 (l1 ||| (1 <<< (l2 &&& 31))) (l2 + 1)
      ) else (
        L4 w22 a0 (l1 ||| 0) (l2 + 1)
      )))))))))))))))))))))))
    )))
def wl_X0_agreed_4 (k : Int32 → Wd → Prop) (n : Nat) : Wd → Nat → Int32 → Int32 → Prop := Nat.rec (motive := fun _ => Wd → Nat → Int32 → Int32 → Prop) (fun _ _ _ _ => False) (fun _ L => wb_X0_agreed_4 k L) n
theorem wl_X0_agreed_4_s (k : Int32 → Wd → Prop) (n : Nat) : wl_X0_agreed_4 k (n + 1) = wb_X0_agreed_4 k (wl_X0_agreed_4 k n) := rfl
theorem wl_X0_agreed_4_0 (k : Int32 → Wd → Prop) : wl_X0_agreed_4 k 0 = fun _ _ _ _ => False := rfl
def wp_X0_agreed (w : Wd) (a0 : Nat) (k : Int32 → Wd → Prop) : Prop :=
  wl_X0_agreed_4 k FU w a0 0 0
def wp_J18_bitCount (w : Wd) (a0 : Int32) (k : Int32 → Wd → Prop) : Prop :=
  k ((((((((a0 - (((a0.toUInt32 >>> ((1 : Int32).toUInt32 &&& Int32.toUInt32 31)).toInt32) &&& 1431655765)) &&& 858993459) + ((((a0 - (((a0.toUInt32 >>> ((1 : Int32).toUInt32 &&& Int32.toUInt32 31)).toInt32) &&& 1431655765)).toUInt32 >>> ((2 : Int32).toUInt32 &&& Int32.toUInt32 31)).toInt32) &&& 858993459)) + (((((a0 - (((a0.toUInt32 >>> ((1 : Int32).toUInt32 &&& Int32.toUInt32 31)).toInt32) &&& 1431655765)) &&& 858993459) + ((((a0 - (((a0.toUInt32 >>> ((1 : Int32).toUInt32 &&& Int32.toUInt32 31)).toInt32) &&& 1431655765)).toUInt32 >>> ((2 : Int32).toUInt32 &&& Int32.toUInt32 31)).toInt32) &&& 858993459)).toUInt32 >>> ((4 : Int32).toUInt32 &&& Int32.toUInt32 31)).toInt32)) &&& 252645135) + (((((((a0 - (((a0.toUInt32 >>> ((1 : Int32).toUInt32 &&& Int32.toUInt32 31)).toInt32) &&& 1431655765)) &&& 858993459) + ((((a0 - (((a0.toUInt32 >>> ((1 : Int32).toUInt32 &&& Int32.toUInt32 31)).toInt32) &&& 1431655765)).toUInt32 >>> ((2 : Int32).toUInt32 &&& Int32.toUInt32 31)).toInt32) &&& 858993459)) + (((((a0 - (((a0.toUInt32 >>> ((1 : Int32).toUInt32 &&& Int32.toUInt32 31)).toInt32) &&& 1431655765)) &&& 858993459) + ((((a0 - (((a0.toUInt32 >>> ((1 : Int32).toUInt32 &&& Int32.toUInt32 31)).toInt32) &&& 1431655765)).toUInt32 >>> ((2 : Int32).toUInt32 &&& Int32.toUInt32 31)).toInt32) &&& 858993459)).toUInt32 >>> ((4 : Int32).toUInt32 &&& Int32.toUInt32 31)).toInt32)) &&& 252645135).toUInt32 >>> ((8 : Int32).toUInt32 &&& Int32.toUInt32 31)).toInt32)) + ((((((((a0 - (((a0.toUInt32 >>> ((1 : Int32).toUInt32 &&& Int32.toUInt32 31)).toInt32) &&& 1431655765)) &&& 858993459) + ((((a0 - (((a0.toUInt32 >>> ((1 : Int32).toUInt32 &&& Int32.toUInt32 31)).toInt32) &&& 1431655765)).toUInt32 >>> ((2 : Int32).toUInt32 &&& Int32.toUInt32 31)).toInt32) &&& 858993459)) + (((((a0 - (((a0.toUInt32 >>> ((1 : Int32).toUInt32 &&& Int32.toUInt32 31)).toInt32) &&& 1431655765)) &&& 858993459) + ((((a0 - (((a0.toUInt32 >>> ((1 : Int32).toUInt32 &&& Int32.toUInt32 31)).toInt32) &&& 1431655765)).toUInt32 >>> ((2 : Int32).toUInt32 &&& Int32.toUInt32 31)).toInt32) &&& 858993459)).toUInt32 >>> ((4 : Int32).toUInt32 &&& Int32.toUInt32 31)).toInt32)) &&& 252645135) + (((((((a0 - (((a0.toUInt32 >>> ((1 : Int32).toUInt32 &&& Int32.toUInt32 31)).toInt32) &&& 1431655765)) &&& 858993459) + ((((a0 - (((a0.toUInt32 >>> ((1 : Int32).toUInt32 &&& Int32.toUInt32 31)).toInt32) &&& 1431655765)).toUInt32 >>> ((2 : Int32).toUInt32 &&& Int32.toUInt32 31)).toInt32) &&& 858993459)) + (((((a0 - (((a0.toUInt32 >>> ((1 : Int32).toUInt32 &&& Int32.toUInt32 31)).toInt32) &&& 1431655765)) &&& 858993459) + ((((a0 - (((a0.toUInt32 >>> ((1 : Int32).toUInt32 &&& Int32.toUInt32 31)).toInt32) &&& 1431655765)).toUInt32 >>> ((2 : Int32).toUInt32 &&& Int32.toUInt32 31)).toInt32) &&& 858993459)).toUInt32 >>> ((4 : Int32).toUInt32 &&& Int32.toUInt32 31)).toInt32)) &&& 252645135).toUInt32 >>> ((8 : Int32).toUInt32 &&& Int32.toUInt32 31)).toInt32)).toUInt32 >>> ((16 : Int32).toUInt32 &&& Int32.toUInt32 31)).toInt32)) &&& 63) w
def wb_X0_turn_52 (k : Int32 → Wd → Prop) (L20 : Wd → Nat → Int32 → Int32 → Int32 → Prop) (w : Wd) (a0 : Nat) (l1 : Int32) (l2 : Int32) (l3 : Int32) (s0 : Int32) : Prop :=
    if s0 = 0 then (
      L20 w a0 l1 l2 (l3 + 1)
    ) else (
      wgG w (some a0) [20] 0 (fun v9 =>
      wnn v9 (fun b12 =>
      wob w b12 [21] ∧
      wp_X1_carries w b12 l3 (fun v10 w11 =>
      wgG w11 (some a0) [20] 0 (fun v13 =>
      wnn v13 (fun b16 =>
      wob w11 b16 [21] ∧
      wp_X1_carries w11 b16 0 (fun v14 w15 =>
      if v10 = v14 then (
        L20 w15 a0 l1 l2 (l3 + 1)
      ) else (
        L20 w15 a0 l1 l3 (l3 + 1)
      )))))))
    )
def wb_X0_turn_47 (k : Int32 → Wd → Prop) (L20 : Wd → Nat → Int32 → Int32 → Int32 → Prop) (w : Wd) (a0 : Nat) (l1 : Int32) (l2 : Int32) (l3 : Int32) : Prop :=
    wb_X0_turn_52 k L20 w a0 l1 l2 l3 1
def wb_X0_turn_20 (k : Int32 → Wd → Prop) (L20 : Wd → Nat → Int32 → Int32 → Int32 → Prop) (w : Wd) (a0 : Nat) (l1 : Int32) (l2 : Int32) (l3 : Int32) : Prop :=
    wgG w (some a0) [20] 0 (fun v3 =>
    wnn v3 (fun b6 =>
    wob w b6 [21] ∧
    wp_X1_everybody w b6 (fun v4 w5 =>
    if v4 < l3 then (
      if l1 = 1 then (
        k l2 w5
      ) else (
        if l2 = (-1) then (
          k l2 w5
        ) else (
          wp_J18_bitCount w5 l2 (fun v7 w8 =>
          k v7 w8)
        )
      )
    ) else (
      if l2 = (-1) then (
        wb_X0_turn_47 k L20 w5 a0 l1 l2 l3
      ) else (
        wp_J18_bitCount w5 l3 (fun v17 w18 =>
        wp_J18_bitCount w18 l2 (fun v19 w20 =>
        if v19 ≤ v17 then (
          wb_X0_turn_52 k L20 w20 a0 l1 l2 l3 0
        ) else (
          wb_X0_turn_47 k L20 w20 a0 l1 l2 l3
        )))
      )
    ))))
def wl_X0_turn_20 (k : Int32 → Wd → Prop) (n : Nat) : Wd → Nat → Int32 → Int32 → Int32 → Prop := Nat.rec (motive := fun _ => Wd → Nat → Int32 → Int32 → Int32 → Prop) (fun _ _ _ _ _ => False) (fun _ L => wb_X0_turn_20 k L) n
theorem wl_X0_turn_20_s (k : Int32 → Wd → Prop) (n : Nat) : wl_X0_turn_20 k (n + 1) = wb_X0_turn_20 k (wl_X0_turn_20 k n) := rfl
theorem wl_X0_turn_20_0 (k : Int32 → Wd → Prop) : wl_X0_turn_20 k 0 = fun _ _ _ _ _ => False := rfl
def wp_X0_turn (w : Wd) (a0 : Nat) (a1 : Int32) (k : Int32 → Wd → Prop) : Prop :=
  wp_X0_isIn w a1 0 1 (fun v1 w2 =>
  if v1 = 0 then (
    wob w2 a0 [20] ∧
    wp_X0_no w2 a0 (-2) (fun v21 w22 =>
    k v21 w22)
  ) else (
    wl_X0_turn_20 k FU w2 a0 a1 (-1) 0
  ))
def wp_X0_rowFor (w : Wd) (a0 : Nat) (a1 : Int32) (a2 : Int32) (x : Nat → Wd → Prop) (k : Option Nat → Wd → Prop) : Prop :=
  wgG w (some a0) [20] 8 (fun v1 =>
  wldQ w v1 8 a1 (fun v2 =>
  wgG w v2 [23] 300 (fun v3 =>
  wio w v3 [26, 27, 28, 29, 30, 31] [1, 2, 0, 5, 4] (fun v4 =>
  if v4 = 0 then (
    wgG w (some a0) [20] 8 (fun v9 =>
    wldQ w v9 8 a2 (fun v10 =>
    wgG w v10 [23] 300 (fun v11 =>
    wio w v11 [26, 27, 28, 29, 30, 31] [1, 2, 0, 5, 4] (fun v12 =>
    if v12 = 0 then (
      wob w a0 [20] ∧
      wp_X0_rowIn w a0 a1 (fun q15 w16 => x q15 w16) (fun v13 w14 =>
      k v13 w14)
    ) else (
      wnew w 25 7 (fun n17 w18 =>
      wp_X5_init w18 n17 (-3) (fun w19 =>
      wthr w19 (some n17) 25 (fun q20 => x q20 w19)))
    )))))
  ) else (
    wnew w 25 7 (fun n5 w6 =>
    wp_X5_init w6 n5 (-3) (fun w7 =>
    wthr w7 (some n5) 25 (fun q8 => x q8 w7)))
  )))))
def wp_X0_signAt (w : Wd) (a0 : Option Nat) (a1 : Int32) (k : Int32 → Wd → Prop) : Prop :=
  if a1 < 0 then (
    k 3 w
  ) else (
    wln w a0 (fun v1 =>
    if v1 ≤ a1 then (
      k 3 w
    ) else (
      wldL w a0 a1 (fun v2 =>
      k (v2.toInt32) w)
    ))
  )
def wb_X0_met_203 (k : Int32 → Wd → Prop) (L74 : Wd → Nat → Int32 → Option Nat → Int32 → Option Nat → Int32 → Int32 → Prop) (w : Wd) (a0 : Nat) (l1 : Int32) (l2 : Option Nat) (l3 : Int32) (l4 : Option Nat) (l5 : Int32) (l6 : Int32) (s0 : Int32) : Prop :=
    wgG w (some a0) [20] 2 (fun v57 =>
    wgF w v57 [22] 200 (fun v58 =>
    wgG w (some a0) [20] 3 (fun v59 =>
    wgF w v59 [22] 200 (fun v60 =>
    if v58 = v60 then (
      k (l6 + 1) w
    ) else (
      if s0 = 0 then (
        L74 w a0 l1 l2 l3 l4 l5 (l6 + 1)
      ) else (
        k (l6 + 1) w
      )
    )))))
def wb_X0_met_202 (k : Int32 → Wd → Prop) (L74 : Wd → Nat → Int32 → Option Nat → Int32 → Option Nat → Int32 → Int32 → Prop) (w : Wd) (a0 : Nat) (l1 : Int32) (l2 : Option Nat) (l3 : Int32) (l4 : Option Nat) (l5 : Int32) (l6 : Int32) : Prop :=
    wb_X0_met_203 k L74 w a0 l1 l2 l3 l4 l5 l6 0
def wb_X0_met_74 (k : Int32 → Wd → Prop) (L74 : Wd → Nat → Int32 → Option Nat → Int32 → Option Nat → Int32 → Int32 → Prop) (w : Wd) (a0 : Nat) (l1 : Int32) (l2 : Option Nat) (l3 : Int32) (l4 : Option Nat) (l5 : Int32) (l6 : Int32) : Prop :=
    wln w l2 (fun v25 =>
    wln w l4 (fun v26 =>
    wp_J14_max w v25 (l5 + v26) (fun v27 w28 =>
    if v27 ≤ l6 then (
      k (-1) w28
    ) else (
      wgG w28 (some a0) [20] 2 (fun v29 =>
      wgG w28 (some a0) [20] 0 (fun v30 =>
      wgG w28 (some a0) [20] 0 (fun v31 =>
      wgG w28 v31 [21] 101 (fun v32 =>
      wldQ w28 v32 6 l1 (fun v33 =>
      wp_X0_signAt w28 l2 l6 (fun v34 w35 =>
      wgG w35 (some a0) [20] 0 (fun v36 =>
      wgG w35 v36 [21] 105 (fun v37 =>
      wld w35 v37 0 0 (fun v38 =>
      wnn v29 (fun b40 =>
      wob w35 b40 [22] ∧
      wp_X2_goes w35 b40 v30 v33 v34 v38 (fun w39 =>
      wgG w39 (some a0) [20] 3 (fun v41 =>
      wgG w39 (some a0) [20] 0 (fun v42 =>
      wgG w39 (some a0) [20] 0 (fun v43 =>
      wgG w39 v43 [21] 101 (fun v44 =>
      wldQ w39 v44 6 l3 (fun v45 =>
      wp_X0_signAt w39 l4 (l6 - l5) (fun v46 w47 =>
      wgG w47 (some a0) [20] 0 (fun v48 =>
      wgG w47 v48 [21] 105 (fun v49 =>
      wld w47 v49 0 0 (fun v50 =>
      wnn v41 (fun b52 =>
      wob w47 b52 [22] ∧
      wp_X2_goes w47 b52 v42 v45 v46 v50 (fun w51 =>
      wgG w51 (some a0) [20] 2 (fun v53 =>
      wgF w51 v53 [22] 200 (fun v54 =>
      wgG w51 (some a0) [20] 3 (fun v55 =>
      wgF w51 v55 [22] 207 (fun v56 =>
      if v54 = v56 then (
        wgG w51 (some a0) [20] 3 (fun v61 =>
        wgF w51 v61 [22] 200 (fun v62 =>
        wgG w51 (some a0) [20] 2 (fun v63 =>
        wgF w51 v63 [22] 207 (fun v64 =>
        if v62 = v64 then (
          wb_X0_met_203 k L74 w51 a0 l1 l2 l3 l4 l5 l6 1
        ) else (
          wb_X0_met_202 k L74 w51 a0 l1 l2 l3 l4 l5 l6
        )))))
      ) else (
        wb_X0_met_202 k L74 w51 a0 l1 l2 l3 l4 l5 l6
      )))))))))))))))))))))))))))
    ))))
def wl_X0_met_74 (k : Int32 → Wd → Prop) (n : Nat) : Wd → Nat → Int32 → Option Nat → Int32 → Option Nat → Int32 → Int32 → Prop := Nat.rec (motive := fun _ => Wd → Nat → Int32 → Option Nat → Int32 → Option Nat → Int32 → Int32 → Prop) (fun _ _ _ _ _ _ _ _ => False) (fun _ L => wb_X0_met_74 k L) n
theorem wl_X0_met_74_s (k : Int32 → Wd → Prop) (n : Nat) : wl_X0_met_74 k (n + 1) = wb_X0_met_74 k (wl_X0_met_74 k n) := rfl
theorem wl_X0_met_74_0 (k : Int32 → Wd → Prop) : wl_X0_met_74 k 0 = fun _ _ _ _ _ _ _ _ => False := rfl
def wp_X0_met (w : Wd) (a0 : Nat) (a1 : Int32) (a2 : Option Nat) (a3 : Int32) (a4 : Option Nat) (a5 : Int32) (k : Int32 → Wd → Prop) : Prop :=
  wgG w (some a0) [20] 2 (fun v1 =>
  wgG w (some a0) [20] 0 (fun v2 =>
  wgG w v2 [21] 102 (fun v3 =>
  wld w v3 0 a1 (fun v4 =>
  wgG w (some a0) [20] 0 (fun v5 =>
  wgG w v5 [21] 103 (fun v6 =>
  wld w v6 0 a1 (fun v7 =>
  wnn v1 (fun b10 =>
  wob w b10 [22] ∧
  wp_X2_begins w b10 v4 v7 (fun v8 w9 =>
  wgG w9 (some a0) [20] 3 (fun v11 =>
  wgG w9 (some a0) [20] 0 (fun v12 =>
  wgG w9 v12 [21] 102 (fun v13 =>
  wld w9 v13 0 a3 (fun v14 =>
  wgG w9 (some a0) [20] 0 (fun v15 =>
  wgG w9 v15 [21] 103 (fun v16 =>
  wld w9 v16 0 a3 (fun v17 =>
  wnn v11 (fun b20 =>
  wob w9 b20 [22] ∧
  wp_X2_begins w9 b20 v14 v17 (fun v18 w19 =>
  wgG w19 (some a0) [20] 2 (fun v21 =>
  wgF w19 v21 [22] 200 (fun v22 =>
  wgG w19 (some a0) [20] 3 (fun v23 =>
  wgF w19 v23 [22] 200 (fun v24 =>
  if v22 = v24 then (
    k 0 w19
  ) else (
    wl_X0_met_74 k FU w19 a0 a1 a2 a3 a4 a5 0
  )))))))))))))))))))))))
def wb_X0_both_189 (k : Int32 → Wd → Prop) (w : Wd) (a0 : Nat) (s0 : Option Nat) : Prop :=
    wgF w s0 [25] 506 (fun v7 =>
    wob w a0 [20] ∧
    wp_X0_no w a0 v7 (fun v8 w9 =>
    k v8 w9))
def wb_X0_both_154 (k : Int32 → Wd → Prop) (L154 : Wd → Nat → Int32 → Int32 → Option Nat → Option Nat → Int32 → Prop) (w : Wd) (a0 : Nat) (l3 : Int32) (l6 : Int32) (l11 : Option Nat) (l12 : Option Nat) (l13 : Int32) : Prop :=
    if (9 : Int32) < l13 then (
      k (-1) w
    ) else (
      wob w a0 [20] ∧
      wp_X0_met w a0 l3 l11 l6 l12 l13 (fun v50 w51 =>
      if v50 = (-1) then (
        k l13 w51
      ) else (
        L154 w51 a0 l3 l6 l11 l12 (l13 + 1)
      ))
    )
def wl_X0_both_154 (k : Int32 → Wd → Prop) (n : Nat) : Wd → Nat → Int32 → Int32 → Option Nat → Option Nat → Int32 → Prop := Nat.rec (motive := fun _ => Wd → Nat → Int32 → Int32 → Option Nat → Option Nat → Int32 → Prop) (fun _ _ _ _ _ _ _ => False) (fun _ L => wb_X0_both_154 k L) n
theorem wl_X0_both_154_s (k : Int32 → Wd → Prop) (n : Nat) : wl_X0_both_154 k (n + 1) = wb_X0_both_154 k (wl_X0_both_154 k n) := rfl
theorem wl_X0_both_154_0 (k : Int32 → Wd → Prop) : wl_X0_both_154 k 0 = fun _ _ _ _ _ _ _ => False := rfl
def wb_X0_both_41 (k : Int32 → Wd → Prop) (w : Wd) (a0 : Nat) (l1 : Int32) (l2 : Int32) (l3 : Int32) (l4 : Int32) (l5 : Int32) (l6 : Int32) (l7 : Int32) (s0 : Int32) : Prop :=
    if s0 = 0 then (
      wnew w 25 7 (fun n3 w4 =>
      wp_X5_init w4 n3 (-2) (fun w5 =>
      wthr w5 (some n3) 25 (fun q6 => wb_X0_both_189 k w5 a0 (some q6))))
    ) else (
      wgG w (some a0) [20] 0 (fun v10 =>
      wnn v10 (fun b13 =>
      wob w b13 [21] ∧
      wp_X1_isPerson w b13 l3 (fun v11 w12 =>
      if v11 = 0 then (
        wnew w12 25 7 (fun n14 w15 =>
        wp_X5_init w15 n14 (-2) (fun w16 =>
        wthr w16 (some n14) 25 (fun q17 => wb_X0_both_189 k w16 a0 (some q17))))
      ) else (
        wgG w12 (some a0) [20] 0 (fun v18 =>
        wnn v18 (fun b21 =>
        wob w12 b21 [21] ∧
        wp_X1_isPerson w12 b21 l6 (fun v19 w20 =>
        if v19 = 0 then (
          wnew w20 25 7 (fun n22 w23 =>
          wp_X5_init w23 n22 (-2) (fun w24 =>
          wthr w24 (some n22) 25 (fun q25 => wb_X0_both_189 k w24 a0 (some q25))))
        ) else (
          if l3 = l6 then (
            wnew w20 25 7 (fun n54 w55 =>
            wp_X5_init w55 n54 (-2) (fun w56 =>
            wthr w56 (some n54) 25 (fun q57 => wb_X0_both_189 k w56 a0 (some q57))))
          ) else (
            wob w20 a0 [20] ∧
            wp_X0_rowFor w20 a0 l1 l4 (fun q28 w29 => wb_X0_both_189 k w29 a0 (some q28)) (fun v26 w27 =>
            wob w27 a0 [20] ∧
            wp_X0_rowIn w27 a0 l4 (fun q32 w33 => wb_X0_both_189 k w33 a0 (some q32)) (fun v30 w31 =>
            wp_X0_elementsIn w31 v26 l2 (fun q36 w37 => wb_X0_both_189 k w37 a0 (some q36)) (fun v34 w35 =>
            wp_X0_elementsIn w35 v30 l5 (fun q40 w41 => wb_X0_both_189 k w41 a0 (some q40)) (fun v38 w39 =>
            wp_X0_signs w39 v34 (fun q44 w45 => wb_X0_both_189 k w45 a0 (some q44)) (fun v42 w43 =>
            wp_X0_signs w43 v38 (fun q48 w49 => wb_X0_both_189 k w49 a0 (some q48)) (fun v46 w47 =>
            if l7 = 0 then (
              wl_X0_both_154 k FU w47 a0 l3 l6 v34 v38 0
            ) else (
              wob w47 a0 [20] ∧
              wp_X0_met w47 a0 l3 v34 l6 v38 0 (fun v52 w53 =>
              k v52 w53)
            )))))))
          )
        ))))
      ))))
    )
def wb_X0_both_40 (k : Int32 → Wd → Prop) (w : Wd) (a0 : Nat) (l1 : Int32) (l2 : Int32) (l3 : Int32) (l4 : Int32) (l5 : Int32) (l6 : Int32) (l7 : Int32) : Prop :=
    wb_X0_both_41 k w a0 l1 l2 l3 l4 l5 l6 l7 0
def wp_X0_both (w : Wd) (a0 : Nat) (a1 : Int32) (a2 : Int32) (a3 : Int32) (a4 : Int32) (a5 : Int32) (a6 : Int32) (a7 : Int32) (k : Int32 → Wd → Prop) : Prop :=
  wp_X0_isShelf w a1 (fun v1 w2 =>
  if v1 = 0 then (
    wb_X0_both_40 k w2 a0 a1 a2 a3 a4 a5 a6 a7
  ) else (
    wp_X0_isShelf w2 a4 (fun v58 w59 =>
    if v58 = 0 then (
      wb_X0_both_40 k w59 a0 a1 a2 a3 a4 a5 a6 a7
    ) else (
      wp_X0_isIn w59 a2 0 40 (fun v60 w61 =>
      if v60 = 0 then (
        wb_X0_both_40 k w61 a0 a1 a2 a3 a4 a5 a6 a7
      ) else (
        wp_X0_isIn w61 a5 0 40 (fun v62 w63 =>
        if v62 = 0 then (
          wb_X0_both_40 k w63 a0 a1 a2 a3 a4 a5 a6 a7
        ) else (
          wb_X0_both_41 k w63 a0 a1 a2 a3 a4 a5 a6 a7 1
        ))
      ))
    ))
  ))
def wp_X0_meet (w : Wd) (a0 : Nat) (a1 : Int32) (a2 : Int32) (a3 : Int32) (a4 : Int32) (a5 : Int32) (a6 : Int32) (k : Int32 → Wd → Prop) : Prop :=
  wob w a0 [20] ∧
  wp_X0_both w a0 a1 a2 a3 a4 a5 a6 1 (fun v1 w2 =>
  k v1 w2)
def wp_X0_waits (w : Wd) (a0 : Nat) (a1 : Int32) (a2 : Int32) (a3 : Int32) (a4 : Int32) (a5 : Int32) (a6 : Int32) (k : Int32 → Wd → Prop) : Prop :=
  wob w a0 [20] ∧
  wp_X0_both w a0 a1 a2 a3 a4 a5 a6 0 (fun v1 w2 =>
  k v1 w2)
def wb_X0_walk_194 (k : Int32 → Wd → Prop) (w : Wd) (a0 : Nat) (s0 : Option Nat) : Prop :=
    wgF w s0 [25] 506 (fun v9 =>
    wob w a0 [20] ∧
    wp_X0_no w a0 v9 (fun v10 w11 =>
    k v10 w11))
def wb_X0_walk_167 (k : Int32 → Wd → Prop) (w : Wd) (a0 : Nat) (l3 : Int32) (s0 : Option Nat) (s1 : Int32) (s2 : Int32) : Prop :=
    wst w s0 0 s1 s2 (fun w33 =>
    wgG w33 (some a0) [20] 0 (fun v34 =>
    wgG w33 v34 [21] 103 (fun v35 =>
    wgG w33 (some a0) [20] 2 (fun v36 =>
    wgF w33 v36 [22] 201 (fun v37 =>
    wst w33 v35 0 l3 v37 (fun w38 =>
    wgG w38 (some a0) [20] 0 (fun v39 =>
    wgG w38 v39 [21] 102 (fun v40 =>
    wld w38 v40 0 l3 (fun v41 =>
    k v41 w38)))))))))
def wb_X0_walk_127 (k : Int32 → Wd → Prop) (w : Wd) (a0 : Nat) (l3 : Int32) (s0 : Option Nat) (s1 : Int32) (s2 : Int32) : Prop :=
    wpF w s0 [21] 109 (s1 + s2) (fun w26 =>
    wgG w26 (some a0) [20] 0 (fun v27 =>
    wgG w26 v27 [21] 102 (fun v28 =>
    wgG w26 (some a0) [20] 2 (fun v29 =>
    wgF w26 v29 [22] 206 (fun v30 =>
    if v30 = (-1) then (
      wgG w26 (some a0) [20] 2 (fun v31 =>
      wgF w26 v31 [22] 200 (fun v32 =>
      wb_X0_walk_167 k w26 a0 l3 v28 l3 v32))
    ) else (
      wgG w26 (some a0) [20] 2 (fun v42 =>
      wgF w26 v42 [22] 207 (fun v43 =>
      wb_X0_walk_167 k w26 a0 l3 v28 l3 v43))
    ))))))
def wb_X0_walk_103 (k : Int32 → Wd → Prop) (w : Wd) (a0 : Nat) (l3 : Int32) : Prop :=
    wgG w (some a0) [20] 0 (fun v22 =>
    wgF w v22 [21] 109 (fun v23 =>
    wgG w (some a0) [20] 2 (fun v24 =>
    wgF w v24 [22] 206 (fun v25 =>
    if v25 = (-1) then (
      wb_X0_walk_127 k w a0 l3 v22 v23 0
    ) else (
      wb_X0_walk_127 k w a0 l3 v22 v23 1
    )))))
def wb_X0_walk_45 (k : Int32 → Wd → Prop) (L45 : Wd → Nat → Int32 → Int32 → Option Nat → Int32 → Prop) (w : Wd) (a0 : Nat) (l2 : Int32) (l3 : Int32) (l4 : Option Nat) (l5 : Int32) : Prop :=
    if l2 ≤ l5 then (
      wb_X0_walk_103 k w a0 l3
    ) else (
      wgG w (some a0) [20] 2 (fun v44 =>
      wgF w v44 [22] 206 (fun v45 =>
      if v45 = (-1) then (
        wgG w (some a0) [20] 2 (fun v46 =>
        wgG w (some a0) [20] 0 (fun v47 =>
        wgG w (some a0) [20] 0 (fun v48 =>
        wgG w v48 [21] 101 (fun v49 =>
        wldQ w v49 6 l3 (fun v50 =>
        wldL w l4 l5 (fun v51 =>
        wgG w (some a0) [20] 0 (fun v52 =>
        wgG w v52 [21] 105 (fun v53 =>
        wld w v53 0 0 (fun v54 =>
        wnn v46 (fun b56 =>
        wob w b56 [22] ∧
        wp_X2_goes w b56 v47 v50 (v51.toInt32) v54 (fun w55 =>
        L45 w55 a0 l2 l3 l4 (l5 + 1))))))))))))
      ) else (
        wb_X0_walk_103 k w a0 l3
      )))
    )
def wl_X0_walk_45 (k : Int32 → Wd → Prop) (n : Nat) : Wd → Nat → Int32 → Int32 → Option Nat → Int32 → Prop := Nat.rec (motive := fun _ => Wd → Nat → Int32 → Int32 → Option Nat → Int32 → Prop) (fun _ _ _ _ _ _ => False) (fun _ L => wb_X0_walk_45 k L) n
theorem wl_X0_walk_45_s (k : Int32 → Wd → Prop) (n : Nat) : wl_X0_walk_45 k (n + 1) = wb_X0_walk_45 k (wl_X0_walk_45 k n) := rfl
theorem wl_X0_walk_45_0 (k : Int32 → Wd → Prop) : wl_X0_walk_45 k 0 = fun _ _ _ _ _ _ => False := rfl
def wp_X0_walk (w : Wd) (a0 : Nat) (a1 : Int32) (a2 : Int32) (a3 : Int32) (k : Int32 → Wd → Prop) : Prop :=
  wgG w (some a0) [20] 0 (fun v1 =>
  wnn v1 (fun b4 =>
  wob w b4 [21] ∧
  wp_X1_isPerson w b4 a3 (fun v2 w3 =>
  wob w3 a0 [20] ∧
  wp_X0_signsIn w3 a0 v2 a1 a2 (fun q7 w8 => wb_X0_walk_194 k w8 a0 (some q7)) (fun v5 w6 =>
  wgG w6 (some a0) [20] 2 (fun v12 =>
  wgG w6 (some a0) [20] 0 (fun v13 =>
  wgG w6 v13 [21] 102 (fun v14 =>
  wld w6 v14 0 a3 (fun v15 =>
  wgG w6 (some a0) [20] 0 (fun v16 =>
  wgG w6 v16 [21] 103 (fun v17 =>
  wld w6 v17 0 a3 (fun v18 =>
  wnn v12 (fun b21 =>
  wob w6 b21 [22] ∧
  wp_X2_begins w6 b21 v15 v18 (fun v19 w20 =>
  wl_X0_walk_45 k FU w20 a0 a2 a3 v5 0)))))))))))))
def wp_X1_draw (w : Wd) (a0 : Nat) (a1 : Int32) (k : Int32 → Wd → Prop) : Prop :=
  wgF w (some a0) [21] 110 (fun v1 =>
  wpF w (some a0) [21] 110 ((v1 * 1103515245) + 12345) (fun w2 =>
  wgF w2 (some a0) [21] 110 (fun v3 =>
  (¬ a1 = 0) ∧ (
  k (((v3.toUInt32 >>> ((16 : Int32).toUInt32 &&& Int32.toUInt32 31)).toInt32) - ((v3.toUInt32 >>> ((16 : Int32).toUInt32 &&& Int32.toUInt32 31)).toInt32) / a1 * a1) w2))))
def wb_X1_year_27 (k : Wd → Prop) (L27 : Wd → Nat → Int32 → Prop) (w : Wd) (a0 : Nat) (l2 : Int32) : Prop :=
    wgF w (some a0) [21] 107 (fun v9 =>
    if v9 ≤ l2 then (
      wgF w (some a0) [21] 108 (fun v10 =>
      wpF w (some a0) [21] 108 (v10 + 1) (fun w11 =>
      k w11))
    ) else (
      wgG w (some a0) [21] 104 (fun v12 =>
      wob w a0 [21] ∧
      wp_X1_draw w a0 12 (fun v13 w14 =>
      wgG w14 (some a0) [21] 105 (fun v15 =>
      wld w14 v15 0 2 (fun v16 =>
      if v16 ≤ v13 then (
        wgG w14 (some a0) [21] 104 (fun v17 =>
        wld w14 v17 0 l2 (fun v18 =>
        wst w14 v12 0 l2 v18 (fun w19 =>
        L27 w19 a0 (l2 + 1))))
      ) else (
        wgG w14 (some a0) [21] 104 (fun v20 =>
        wld w14 v20 0 l2 (fun v21 =>
        wst w14 v12 0 l2 (1 - v21) (fun w22 =>
        L27 w22 a0 (l2 + 1))))
      )))))
    ))
def wl_X1_year_27 (k : Wd → Prop) (n : Nat) : Wd → Nat → Int32 → Prop := Nat.rec (motive := fun _ => Wd → Nat → Int32 → Prop) (fun _ _ _ => False) (fun _ L => wb_X1_year_27 k L) n
theorem wl_X1_year_27_s (k : Wd → Prop) (n : Nat) : wl_X1_year_27 k (n + 1) = wb_X1_year_27 k (wl_X1_year_27 k n) := rfl
theorem wl_X1_year_27_0 (k : Wd → Prop) : wl_X1_year_27 k 0 = fun _ _ _ => False := rfl
def wp_X1_year (w : Wd) (a0 : Nat) (k : Wd → Prop) : Prop :=
  wob w a0 [21] ∧
  wp_X1_carries w a0 0 (fun v1 w2 =>
  wgG w2 (some a0) [21] 105 (fun v3 =>
  wgG w2 (some a0) [21] 105 (fun v4 =>
  wld w2 v4 0 0 (fun v5 =>
  wst w2 v3 0 1 v5 (fun w6 =>
  wgG w6 (some a0) [21] 105 (fun v7 =>
  wst w6 v7 0 0 v1 (fun w8 =>
  wl_X1_year_27 k FU w8 a0 0)))))))
def wb_X0_years_19 (k : Int32 → Wd → Prop) (L19 : Wd → Nat → Int32 → Int32 → Prop) (w : Wd) (a0 : Nat) (l1 : Int32) (l2 : Int32) : Prop :=
    if l1 ≤ l2 then (
      wgG w (some a0) [20] 0 (fun v3 =>
      wgG w v3 [21] 105 (fun v4 =>
      wld w v4 0 0 (fun v5 =>
      k v5 w)))
    ) else (
      wgG w (some a0) [20] 0 (fun v6 =>
      wnn v6 (fun b8 =>
      wob w b8 [21] ∧
      wp_X1_year w b8 (fun w7 =>
      L19 w7 a0 l1 (l2 + 1))))
    )
def wl_X0_years_19 (k : Int32 → Wd → Prop) (n : Nat) : Wd → Nat → Int32 → Int32 → Prop := Nat.rec (motive := fun _ => Wd → Nat → Int32 → Int32 → Prop) (fun _ _ _ _ => False) (fun _ L => wb_X0_years_19 k L) n
theorem wl_X0_years_19_s (k : Int32 → Wd → Prop) (n : Nat) : wl_X0_years_19 k (n + 1) = wb_X0_years_19 k (wl_X0_years_19 k n) := rfl
theorem wl_X0_years_19_0 (k : Int32 → Wd → Prop) : wl_X0_years_19 k 0 = fun _ _ _ _ => False := rfl
def wp_X0_years (w : Wd) (a0 : Nat) (a1 : Int32) (k : Int32 → Wd → Prop) : Prop :=
  wp_X0_isIn w a1 1 60 (fun v1 w2 =>
  if v1 = 0 then (
    wob w2 a0 [20] ∧
    wp_X0_no w2 a0 (-2) (fun v9 w10 =>
    k v9 w10)
  ) else (
    wl_X0_years_19 k FU w2 a0 a1 0
  ))
def wp_X0_seed (w : Wd) (a0 : Nat) (a1 : Int32) (k : Int32 → Wd → Prop) : Prop :=
  wgG w (some a0) [20] 0 (fun v1 =>
  wgF w v1 [21] 110 (fun v2 =>
  wgG w (some a0) [20] 0 (fun v3 =>
  wpF w v3 [21] 110 a1 (fun w4 =>
  k v2 w4))))
def wp_X0_image (w : Wd) (a0 : Nat) (k : Int32 → Wd → Prop) : Prop :=
  wgG w (some a0) [20] 0 (fun v1 =>
  wnn v1 (fun b4 =>
  wob w b4 [21] ∧
  wp_X1_copied w b4 (fun v2 w3 =>
  wpG w3 (some a0) [20] 1 v2 (fun w5 =>
  k 1 w5))))
def wp_X0_back (w : Wd) (a0 : Nat) (k : Int32 → Wd → Prop) : Prop :=
  wgG w (some a0) [20] 1 (fun v1 =>
  if v1 = none then (
    wob w a0 [20] ∧
    wp_X0_no w a0 (-5) (fun v7 w8 =>
    k v7 w8)
  ) else (
    wgG w (some a0) [20] 1 (fun v2 =>
    wnn v2 (fun b5 =>
    wob w b5 [21] ∧
    wp_X1_copied w b5 (fun v3 w4 =>
    wob w4 a0 [20] ∧
    wp_X0_becomes w4 a0 v3 (fun w6 =>
    k 1 w6))))
  ))
def wb_X1_manyPonds_13 (k : Int32 → Wd → Prop) (L13 : Wd → Int32 → Option Nat → Int32 → Int32 → Prop) (w : Wd) (l1 : Int32) (l2 : Option Nat) (l3 : Int32) (l4 : Int32) : Prop :=
    if l3 ≤ l4 then (
      k l1 w
    ) else (
      wld w l2 0 l4 (fun v3 =>
      wp_J18_bitCount w v3 (fun v4 w5 =>
      L13 w5 (l1 + v4) l2 l3 (l4 + 1)))
    )
def wl_X1_manyPonds_13 (k : Int32 → Wd → Prop) (n : Nat) : Wd → Int32 → Option Nat → Int32 → Int32 → Prop := Nat.rec (motive := fun _ => Wd → Int32 → Option Nat → Int32 → Int32 → Prop) (fun _ _ _ _ _ => False) (fun _ L => wb_X1_manyPonds_13 k L) n
theorem wl_X1_manyPonds_13_s (k : Int32 → Wd → Prop) (n : Nat) : wl_X1_manyPonds_13 k (n + 1) = wb_X1_manyPonds_13 k (wl_X1_manyPonds_13 k n) := rfl
theorem wl_X1_manyPonds_13_0 (k : Int32 → Wd → Prop) : wl_X1_manyPonds_13 k 0 = fun _ _ _ _ _ => False := rfl
def wp_X1_manyPonds (w : Wd) (a0 : Nat) (k : Int32 → Wd → Prop) : Prop :=
  wgG w (some a0) [21] 100 (fun v1 =>
  wln w v1 (fun v2 =>
  wl_X1_manyPonds_13 k FU w 0 v1 v2 0))
def wb_X0_shelved_4 (k : Int32 → Wd → Prop) (L4 : Wd → Nat → Int32 → Int32 → Prop) (w : Wd) (a0 : Nat) (l1 : Int32) (l2 : Int32) : Prop :=
    if (8 : Int32) ≤ l2 then (
      k l1 w
    ) else (
      wgG w (some a0) [20] 8 (fun v1 =>
      wldQ w v1 8 l2 (fun v2 =>
      wgG w v2 [23] 300 (fun v3 =>
      if v3 = none then (
        L4 w a0 (l1 + 0) (l2 + 1)
      ) else (
        L4 w a0 (l1 + 1) (l2 + 1)
      ))))
    )
def wl_X0_shelved_4 (k : Int32 → Wd → Prop) (n : Nat) : Wd → Nat → Int32 → Int32 → Prop := Nat.rec (motive := fun _ => Wd → Nat → Int32 → Int32 → Prop) (fun _ _ _ _ => False) (fun _ L => wb_X0_shelved_4 k L) n
theorem wl_X0_shelved_4_s (k : Int32 → Wd → Prop) (n : Nat) : wl_X0_shelved_4 k (n + 1) = wb_X0_shelved_4 k (wl_X0_shelved_4 k n) := rfl
theorem wl_X0_shelved_4_0 (k : Int32 → Wd → Prop) : wl_X0_shelved_4 k 0 = fun _ _ _ _ => False := rfl
def wp_X0_shelved (w : Wd) (a0 : Nat) (k : Int32 → Wd → Prop) : Prop :=
  wl_X0_shelved_4 k FU w a0 0 0
def wp_X0_status (w : Wd) (a0 : Nat) (a1 : Int32) (k : Int32 → Wd → Prop) : Prop :=
  wp_X0_isIn w a1 12 16 (fun v1 w2 =>
  if v1 = 0 then (
    if a1 = 0 then (
      wgG w2 (some a0) [20] 0 (fun v3 =>
      wgF w2 v3 [21] 107 (fun v4 =>
      k v4 w2))
    ) else (
    if a1 = 1 then (
      wgG w2 (some a0) [20] 0 (fun v5 =>
      wgF w2 v5 [21] 106 (fun v6 =>
      k v6 w2))
    ) else (
    if a1 = 2 then (
      wgG w2 (some a0) [20] 0 (fun v7 =>
      wgG w2 v7 [21] 105 (fun v8 =>
      wld w2 v8 0 (a1 - 2) (fun v9 =>
      k v9 w2)))
    ) else (
    if a1 = 3 then (
      wgG w2 (some a0) [20] 0 (fun v10 =>
      wgG w2 v10 [21] 105 (fun v11 =>
      wld w2 v11 0 (a1 - 2) (fun v12 =>
      k v12 w2)))
    ) else (
    if a1 = 4 then (
      wgG w2 (some a0) [20] 0 (fun v13 =>
      wgG w2 v13 [21] 105 (fun v14 =>
      wld w2 v14 0 (a1 - 2) (fun v15 =>
      k v15 w2)))
    ) else (
    if a1 = 5 then (
      wgG w2 (some a0) [20] 0 (fun v16 =>
      wnn v16 (fun b19 =>
      wob w2 b19 [21] ∧
      wp_X1_manyPonds w2 b19 (fun v17 w18 =>
      k v17 w18)))
    ) else (
    if a1 = 6 then (
      wgG w2 (some a0) [20] 0 (fun v20 =>
      wgF w2 v20 [21] 108 (fun v21 =>
      k v21 w2))
    ) else (
    if a1 = 7 then (
      wgG w2 (some a0) [20] 0 (fun v22 =>
      wgF w2 v22 [21] 109 (fun v23 =>
      k v23 w2))
    ) else (
    if a1 = 8 then (
      wgF w2 (some a0) [20] 10 (fun v24 =>
      k v24 w2)
    ) else (
    if a1 = 9 then (
      wgG w2 (some a0) [20] 0 (fun v25 =>
      wgF w2 v25 [21] 110 (fun v26 =>
      k v26 w2))
    ) else (
    if a1 = 10 then (
      wob w2 a0 [20] ∧
      wp_X0_shelved w2 a0 (fun v27 w28 =>
      k v27 w28)
    ) else (
      k (-1) w2
    )))))))))))
  ) else (
    wgG w2 (some a0) [20] 11 (fun v29 =>
    wld w2 v29 0 (a1 - 10) (fun v30 =>
    k v30 w2))
  ))
