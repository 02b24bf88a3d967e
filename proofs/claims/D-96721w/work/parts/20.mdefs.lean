/-! what the reference computes (printed by prog/extract.py) -/
def wp_J14_max (w : Wd) (a0 : Int32) (a1 : Int32) (k : Int32 → Wd → Prop) : Prop :=
  if a0 < a1 then (
    k a1 w
  ) else (
    k a0 w
  )
def wp_X4_fresh (w : Wd)  (k : Option Nat → Wd → Prop) : Prop :=
  wna w 0 97 97 (fun n1 w2 =>
  wst w2 (some n1) 0 90 5 (fun w3 =>
  wst w3 (some n1) 0 93 3 (fun w4 =>
  wst w4 (some n1) 0 96 1 (fun w5 =>
  k (some n1) w5))))
def wp_X4_init (w : Wd) (a0 : Nat) (k : Wd → Prop) : Prop :=
  wna w 0 7 7 (fun n1 w2 =>
  wpG w2 (some a0) [24] 400 (some n1) (fun w3 =>
  wp_X4_fresh w3  (fun v4 w5 =>
  wpG w5 (some a0) [24] 401 v4 (fun w6 =>
  wna w6 0 97 97 (fun n7 w8 =>
  wpG w8 (some a0) [24] 402 (some n7) (fun w9 =>
  wna w9 0 97 97 (fun n10 w11 =>
  wpG w11 (some a0) [24] 403 (some n10) (fun w12 =>
  wna w12 0 250 250 (fun n13 w14 =>
  wpG w14 (some a0) [24] 405 (some n13) (fun w15 =>
  wna w15 3 48 48 (fun n16 w17 =>
  wst w17 (some n16) 3 0 (vp_nar .char 115) (fun w18 =>
  wst w18 (some n16) 3 1 (vp_nar .char 105) (fun w19 =>
  wst w19 (some n16) 3 2 (vp_nar .char 100) (fun w20 =>
  wst w20 (some n16) 3 3 (vp_nar .char 101) (fun w21 =>
  wst w21 (some n16) 3 4 (vp_nar .char 0) (fun w22 =>
  wst w22 (some n16) 3 5 (vp_nar .char 0) (fun w23 =>
  wst w23 (some n16) 3 6 (vp_nar .char 112) (fun w24 =>
  wst w24 (some n16) 3 7 (vp_nar .char 111) (fun w25 =>
  wst w25 (some n16) 3 8 (vp_nar .char 110) (fun w26 =>
  wst w26 (some n16) 3 9 (vp_nar .char 100) (fun w27 =>
  wst w27 (some n16) 3 10 (vp_nar .char 0) (fun w28 =>
  wst w28 (some n16) 3 11 (vp_nar .char 0) (fun w29 =>
  wst w29 (some n16) 3 12 (vp_nar .char 100) (fun w30 =>
  wst w30 (some n16) 3 13 (vp_nar .char 114) (fun w31 =>
  wst w31 (some n16) 3 14 (vp_nar .char 121) (fun w32 =>
  wst w32 (some n16) 3 15 (vp_nar .char 0) (fun w33 =>
  wst w33 (some n16) 3 16 (vp_nar .char 0) (fun w34 =>
  wst w34 (some n16) 3 17 (vp_nar .char 0) (fun w35 =>
  wst w35 (some n16) 3 18 (vp_nar .char 112) (fun w36 =>
  wst w36 (some n16) 3 19 (vp_nar .char 101) (fun w37 =>
  wst w37 (some n16) 3 20 (vp_nar .char 114) (fun w38 =>
  wst w38 (some n16) 3 21 (vp_nar .char 115) (fun w39 =>
  wst w39 (some n16) 3 22 (vp_nar .char 111) (fun w40 =>
  wst w40 (some n16) 3 23 (vp_nar .char 110) (fun w41 =>
  wst w41 (some n16) 3 24 (vp_nar .char 105) (fun w42 =>
  wst w42 (some n16) 3 25 (vp_nar .char 115) (fun w43 =>
  wst w43 (some n16) 3 26 (vp_nar .char 0) (fun w44 =>
  wst w44 (some n16) 3 27 (vp_nar .char 0) (fun w45 =>
  wst w45 (some n16) 3 28 (vp_nar .char 0) (fun w46 =>
  wst w46 (some n16) 3 29 (vp_nar .char 0) (fun w47 =>
  wst w47 (some n16) 3 30 (vp_nar .char 108) (fun w48 =>
  wst w48 (some n16) 3 31 (vp_nar .char 101) (fun w49 =>
  wst w49 (some n16) 3 32 (vp_nar .char 102) (fun w50 =>
  wst w50 (some n16) 3 33 (vp_nar .char 116) (fun w51 =>
  wst w51 (some n16) 3 34 (vp_nar .char 0) (fun w52 =>
  wst w52 (some n16) 3 35 (vp_nar .char 0) (fun w53 =>
  wst w53 (some n16) 3 36 (vp_nar .char 111) (fun w54 =>
  wst w54 (some n16) 3 37 (vp_nar .char 108) (fun w55 =>
  wst w55 (some n16) 3 38 (vp_nar .char 100) (fun w56 =>
  wst w56 (some n16) 3 39 (vp_nar .char 0) (fun w57 =>
  wst w57 (some n16) 3 40 (vp_nar .char 0) (fun w58 =>
  wst w58 (some n16) 3 41 (vp_nar .char 0) (fun w59 =>
  wst w59 (some n16) 3 42 (vp_nar .char 100) (fun w60 =>
  wst w60 (some n16) 3 43 (vp_nar .char 111) (fun w61 =>
  wst w61 (some n16) 3 44 (vp_nar .char 117) (fun w62 =>
  wst w62 (some n16) 3 45 (vp_nar .char 98) (fun w63 =>
  wst w63 (some n16) 3 46 (vp_nar .char 116) (fun w64 =>
  wst w64 (some n16) 3 47 (vp_nar .char 0) (fun w65 =>
  wpG w65 (some a0) [24] 410 (some n16) (fun w66 =>
  wna w66 0 2 2 (fun n67 w68 =>
  wpG w68 (some a0) [24] 411 (some n67) (fun w69 =>
  wna w69 0 2 2 (fun n70 w71 =>
  wpG w71 (some a0) [24] 412 (some n70) (fun w72 =>
  wna w72 0 2 2 (fun n73 w74 =>
  wpG w74 (some a0) [24] 413 (some n73) (fun w75 =>
  wna w75 0 2 2 (fun n76 w77 =>
  wpG w77 (some a0) [24] 414 (some n76) (fun w78 =>
  wna w78 0 2 2 (fun n79 w80 =>
  wpG w80 (some a0) [24] 415 (some n79) (fun w81 =>
  wna w81 0 2 2 (fun n82 w83 =>
  wpG w83 (some a0) [24] 416 (some n82) (fun w84 =>
  wna w84 0 40 40 (fun n85 w86 =>
  wpG w86 (some a0) [24] 418 (some n85) (fun w87 =>
  wna w87 0 8 8 (fun n88 w89 =>
  wst w89 (some n88) 0 0 (-1) (fun w90 =>
  wst w90 (some n88) 0 1 (-1) (fun w91 =>
  wst w91 (some n88) 0 2 (-1) (fun w92 =>
  wst w92 (some n88) 0 3 (-1) (fun w93 =>
  wst w93 (some n88) 0 4 (-1) (fun w94 =>
  wst w94 (some n88) 0 5 (-1) (fun w95 =>
  wst w95 (some n88) 0 6 (-1) (fun w96 =>
  wst w96 (some n88) 0 7 (-1) (fun w97 =>
  wpG w97 (some a0) [24] 419 (some n88) (fun w98 =>
  wna w98 0 8 8 (fun n99 w100 =>
  wpG w100 (some a0) [24] 420 (some n99) (fun w101 =>
  wna w101 5 320 320 (fun n102 w103 =>
  wpG w103 (some a0) [24] 421 (some n102) (fun w104 =>
  wna w104 5 40 40 (fun n105 w106 =>
  wpG w106 (some a0) [24] 422 (some n105) (fun w107 =>
  wna w107 0 6 6 (fun n108 w109 =>
  wst w109 (some n108) 0 0 (-1) (fun w110 =>
  wst w110 (some n108) 0 1 0 (fun w111 =>
  wst w111 (some n108) 0 2 0 (fun w112 =>
  wst w112 (some n108) 0 3 1 (fun w113 =>
  wst w113 (some n108) 0 4 2 (fun w114 =>
  wst w114 (some n108) 0 5 0 (fun w115 =>
  wpG w115 (some a0) [24] 423 (some n108) (fun w116 =>
  wna w116 0 8 8 (fun n117 w118 =>
  wpG w118 (some a0) [24] 424 (some n117) (fun w119 =>
  wna w119 0 40 40 (fun n120 w121 =>
  wpG w121 (some a0) [24] 425 (some n120) (fun w122 =>
  k w122))))))))))))))))))))))))))))))))))))))))))))))))))))))))))))))))))))))))))))))))))))))))))))))))))))))
def wp_X4_isIn (w : Wd) (a0 : Int64) (a2 : Int64) (a4 : Int64) (k : Int32 → Wd → Prop) : Prop :=
  if (lg_cmp a0 a2) < 0 then (
    k 0 w
  ) else (
    if (0 : Int32) < (lg_cmp a0 a4) then (
      k 0 w
    ) else (
      k 1 w
    )
  )
def wp_X4_refuse (w : Wd) (a0 : Nat) (a1 : Int32) (k : Int32 → Wd → Prop) : Prop :=
  wgG w (some a0) [24] 400 (fun v1 =>
  wld w v1 0 (-a1) (fun v2 =>
  wst w v1 0 (-a1) (v2 + 1) (fun w3 =>
  k a1 w3)))
def wp_X4_side (w : Wd) (a0 : Nat) (a1 : Int32) (k : Int32 → Wd → Prop) : Prop :=
  wgG w (some a0) [24] 401 (fun v1 =>
  wld w v1 0 90 (fun v2 =>
  wp_X4_isIn w (a1.toInt64) (v2.toInt64) 7 (fun v3 w4 =>
  if v3 = 0 then (
    wob w4 a0 [24] ∧
    wp_X4_refuse w4 a0 (-2) (fun v9 w10 =>
    k v9 w10)
  ) else (
    wgG w4 (some a0) [24] 401 (fun v5 =>
    wld w4 v5 0 90 (fun v6 =>
    wgG w4 (some a0) [24] 401 (fun v7 =>
    wst w4 v7 0 90 a1 (fun w8 =>
    k v6 w8))))
  ))))
def wp_X4_isCell (w : Wd) (a0 : Nat) (a1 : Int32) (k : Int32 → Wd → Prop) : Prop :=
  if a1 < 0 then (
    k 0 w
  ) else (
    wgG w (some a0) [24] 401 (fun v1 =>
    wld w v1 0 90 (fun v2 =>
    if v2 ≤ (a1 / 10) then (
      k 0 w
    ) else (
      wgG w (some a0) [24] 401 (fun v3 =>
      wld w v3 0 90 (fun v4 =>
      if v4 ≤ (a1 - a1 / 10 * 10) then (
        k 0 w
      ) else (
        k 1 w
      )))
    )))
  )
def wp_X4_pondAt (w : Wd) (a0 : Int32) (k : Int32 → Wd → Prop) : Prop :=
  k ((40 + (7 * (a0 / 10))) + (a0 - a0 / 10 * 10)) w
def wp_X4_many (w : Wd) (a0 : Nat) (k : Int32 → Wd → Prop) : Prop :=
  wgG w (some a0) [24] 401 (fun v1 =>
  wld w v1 0 89 (fun v2 =>
  k v2 w))
def wp_X4_cell (w : Wd) (a0 : Nat) (a1 : Int32) (k : Int32 → Wd → Prop) : Prop :=
  wgG w (some a0) [24] 401 (fun v1 =>
  wld w v1 0 ((5 * a1) + 2) (fun v2 =>
  k v2 w))
def wb_X4_isSomebody_4 (k : Int32 → Wd → Prop) (L4 : Wd → Nat → Int32 → Int32 → Int32 → Prop) (w : Wd) (a0 : Nat) (l1 : Int32) (l2 : Int32) (l3 : Int32) : Prop :=
    wob w a0 [24] ∧
    wp_X4_many w a0 (fun v1 w2 =>
    if v1 ≤ l3 then (
      (narrow .boolean (.int l2) = .int l2) ∧ k l2 w2
    ) else (
      if l2 = 0 then (
        wob w2 a0 [24] ∧
        wp_X4_cell w2 a0 l3 (fun v3 w4 =>
        if v3 = l1 then (
          L4 w4 a0 l1 1 (l3 + 1)
        ) else (
          L4 w4 a0 l1 0 (l3 + 1)
        ))
      ) else (
        L4 w2 a0 l1 1 (l3 + 1)
      )
    ))
def wl_X4_isSomebody_4 (k : Int32 → Wd → Prop) (n : Nat) : Wd → Nat → Int32 → Int32 → Int32 → Prop := Nat.rec (motive := fun _ => Wd → Nat → Int32 → Int32 → Int32 → Prop) (fun _ _ _ _ _ => False) (fun _ L => wb_X4_isSomebody_4 k L) n
theorem wl_X4_isSomebody_4_s (k : Int32 → Wd → Prop) (n : Nat) : wl_X4_isSomebody_4 k (n + 1) = wb_X4_isSomebody_4 k (wl_X4_isSomebody_4 k n) := rfl
theorem wl_X4_isSomebody_4_0 (k : Int32 → Wd → Prop) : wl_X4_isSomebody_4 k 0 = fun _ _ _ _ _ => False := rfl
def wp_X4_isSomebody (w : Wd) (a0 : Nat) (a1 : Int32) (k : Int32 → Wd → Prop) : Prop :=
  wl_X4_isSomebody_4 k FU w a0 a1 0 0
def wb_X4_pond_34 (k : Int32 → Wd → Prop) (w : Wd) (a0 : Nat) (l1 : Int32) (l2 : Int32) : Prop :=
    wgG w (some a0) [24] 401 (fun v3 =>
    wp_X4_pondAt w l1 (fun v4 w5 =>
    wld w5 v3 0 v4 (fun v6 =>
    wgG w5 (some a0) [24] 401 (fun v7 =>
    wp_X4_pondAt w5 l1 (fun v8 w9 =>
    if l2 = 0 then (
      wst w9 v7 0 v8 0 (fun w10 =>
      k v6 w10)
    ) else (
      wst w9 v7 0 v8 1 (fun w11 =>
      k v6 w11)
    ))))))
def wp_X4_pond (w : Wd) (a0 : Nat) (a1 : Int32) (a2 : Int32) (k : Int32 → Wd → Prop) : Prop :=
  wob w a0 [24] ∧
  wp_X4_isCell w a0 a1 (fun v1 w2 =>
  if v1 = 0 then (
    wob w2 a0 [24] ∧
    wp_X4_refuse w2 a0 (-2) (fun v16 w17 =>
    k v16 w17)
  ) else (
    if a2 = 0 then (
      wb_X4_pond_34 k w2 a0 a1 a2
    ) else (
      wob w2 a0 [24] ∧
      wp_X4_isSomebody w2 a0 a1 (fun v12 w13 =>
      if v12 = 0 then (
        wb_X4_pond_34 k w13 a0 a1 a2
      ) else (
        wob w13 a0 [24] ∧
        wp_X4_refuse w13 a0 (-5) (fun v14 w15 =>
        k v14 w15)
      ))
    )
  ))
def wp_X4_hasPond (w : Wd) (a0 : Nat) (a1 : Int32) (k : Int32 → Wd → Prop) : Prop :=
  wgG w (some a0) [24] 401 (fun v1 =>
  wp_X4_pondAt w a1 (fun v2 w3 =>
  wld w3 v1 0 v2 (fun v4 =>
  if v4 = 1 then (
    k 1 w3
  ) else (
    k 0 w3
  ))))
def wp_X4_add (w : Wd) (a0 : Nat) (a1 : Int32) (a2 : Int32) (a3 : Int32) (a4 : Int32) (k : Int32 → Wd → Prop) : Prop :=
  wgG w (some a0) [24] 401 (fun v1 =>
  wld w v1 0 89 (fun v2 =>
  wgG w (some a0) [24] 401 (fun v3 =>
  wst w v3 0 (5 * v2) a1 (fun w4 =>
  wgG w4 (some a0) [24] 401 (fun v5 =>
  wst w4 v5 0 ((5 * v2) + 1) a2 (fun w6 =>
  wgG w6 (some a0) [24] 401 (fun v7 =>
  wst w6 v7 0 ((5 * v2) + 2) a3 (fun w8 =>
  wgG w8 (some a0) [24] 401 (fun v9 =>
  wst w8 v9 0 ((5 * v2) + 3) a4 (fun w10 =>
  wgG w10 (some a0) [24] 401 (fun v11 =>
  wst w10 v11 0 ((5 * v2) + 4) 0 (fun w12 =>
  wgG w12 (some a0) [24] 401 (fun v13 =>
  wld w12 v13 0 89 (fun v14 =>
  wst w12 v13 0 89 (v14 + 1) (fun w15 =>
  k v2 w15)))))))))))))))
def wp_X4_person (w : Wd) (a0 : Nat) (a1 : Int32) (a2 : Int32) (a3 : Int32) (a4 : Int32) (k : Int32 → Wd → Prop) : Prop :=
  wp_X4_isIn w (a1.toInt64) 0 5 (fun v1 w2 =>
  if v1 = 0 then (
    wob w2 a0 [24] ∧
    wp_X4_refuse w2 a0 (-2) (fun v3 w4 =>
    k v3 w4)
  ) else (
    wp_X4_isIn w2 (a2.toInt64) 0 9 (fun v5 w6 =>
    if v5 = 0 then (
      wob w6 a0 [24] ∧
      wp_X4_refuse w6 a0 (-2) (fun v7 w8 =>
      k v7 w8)
    ) else (
      wob w6 a0 [24] ∧
      wp_X4_isCell w6 a0 a3 (fun v9 w10 =>
      if v9 = 0 then (
        wob w10 a0 [24] ∧
        wp_X4_refuse w10 a0 (-2) (fun v11 w12 =>
        k v11 w12)
      ) else (
        wp_X4_isIn w10 (a4.toInt64) 0 3 (fun v13 w14 =>
        if v13 = 0 then (
          wob w14 a0 [24] ∧
          wp_X4_refuse w14 a0 (-2) (fun v25 w26 =>
          k v25 w26)
        ) else (
          wob w14 a0 [24] ∧
          wp_X4_hasPond w14 a0 a3 (fun v15 w16 =>
          if v15 = 0 then (
            wob w16 a0 [24] ∧
            wp_X4_many w16 a0 (fun v17 w18 =>
            if v17 = 8 then (
              wob w18 a0 [24] ∧
              wp_X4_refuse w18 a0 (-6) (fun v21 w22 =>
              k v21 w22)
            ) else (
              wob w18 a0 [24] ∧
              wp_X4_add w18 a0 a1 a2 a3 a4 (fun v19 w20 =>
              k v19 w20)
            ))
          ) else (
            wob w16 a0 [24] ∧
            wp_X4_refuse w16 a0 (-5) (fun v23 w24 =>
            k v23 w24)
          ))
        ))
      ))
    ))
  ))
def wb_X4_tell_27 (k : Int32 → Wd → Prop) (w : Wd) (a0 : Nat) (l1 : Int32) (l2 : Int32) (s0 : Int64) (s1 : Int64) (s2 : Int64) : Prop :=
    wp_X4_isIn w s0 s1 s2 (fun v5 w6 =>
    if v5 = 0 then (
      wob w6 a0 [24] ∧
      wp_X4_refuse w6 a0 (-2) (fun v11 w12 =>
      k v11 w12)
    ) else (
      wgG w6 (some a0) [24] 401 (fun v7 =>
      wld w6 v7 0 (91 + l1) (fun v8 =>
      wgG w6 (some a0) [24] 401 (fun v9 =>
      wst w6 v9 0 (91 + l1) l2 (fun w10 =>
      k v8 w10))))
    ))
def wp_X4_tell (w : Wd) (a0 : Nat) (a1 : Int32) (a2 : Int32) (k : Int32 → Wd → Prop) : Prop :=
  wp_X4_isIn w (a1.toInt64) 0 2 (fun v1 w2 =>
  if v1 = 0 then (
    wob w2 a0 [24] ∧
    wp_X4_refuse w2 a0 (-2) (fun v3 w4 =>
    k v3 w4)
  ) else (
    if a1 = 2 then (
      wb_X4_tell_27 k w2 a0 a1 a2 (a2.toInt64) 0 12
    ) else (
      wb_X4_tell_27 k w2 a0 a1 a2 (a2.toInt64) 0 1
    )
  ))
def wp_X4_isPerson (w : Wd) (a0 : Nat) (a1 : Int32) (k : Int32 → Wd → Prop) : Prop :=
  wgG w (some a0) [24] 401 (fun v1 =>
  wld w v1 0 89 (fun v2 =>
  wp_X4_isIn w (a1.toInt64) 0 ((v2 - 1).toInt64) (fun v3 w4 =>
  (narrow .boolean (.int v3) = .int v3) ∧ k v3 w4)))
def wp_X4_isFor_2 (w : Wd) (a0 : Nat) (a1 : Int32) (k : Int32 → Wd → Prop) : Prop :=
  wgG w (some a0) [24] 401 (fun v1 =>
  wld w v1 0 ((5 * a1) + 4) (fun v2 =>
  k v2 w))
def wp_X4_isFor (w : Wd) (a0 : Nat) (a1 : Int32) (a2 : Int32) (k : Int32 → Wd → Prop) : Prop :=
  wob w a0 [24] ∧
  wp_X4_isPerson w a0 a1 (fun v1 w2 =>
  if v1 = 0 then (
    wob w2 a0 [24] ∧
    wp_X4_refuse w2 a0 (-2) (fun v3 w4 =>
    k v3 w4)
  ) else (
    wp_X4_isIn w2 (a2.toInt64) 0 1 (fun v5 w6 =>
    if v5 = 0 then (
      wob w6 a0 [24] ∧
      wp_X4_refuse w6 a0 (-2) (fun v11 w12 =>
      k v11 w12)
    ) else (
      wob w6 a0 [24] ∧
      wp_X4_isFor_2 w6 a0 a1 (fun v7 w8 =>
      wgG w8 (some a0) [24] 401 (fun v9 =>
      wst w8 v9 0 ((5 * a1) + 4) a2 (fun w10 =>
      k v7 w10)))
    ))
  ))
def wp_X4_put (w : Wd) (a0 : Nat) (a1 : Int32) (a2 : Int32) (a3 : Int32) (k : Int32 → Wd → Prop) : Prop :=
  wob w a0 [24] ∧
  wp_X4_isPerson w a0 a1 (fun v1 w2 =>
  if v1 = 0 then (
    wob w2 a0 [24] ∧
    wp_X4_refuse w2 a0 (-2) (fun v3 w4 =>
    k v3 w4)
  ) else (
    wob w2 a0 [24] ∧
    wp_X4_isCell w2 a0 a2 (fun v5 w6 =>
    if v5 = 0 then (
      wob w6 a0 [24] ∧
      wp_X4_refuse w6 a0 (-2) (fun v7 w8 =>
      k v7 w8)
    ) else (
      wp_X4_isIn w6 (a3.toInt64) 0 3 (fun v9 w10 =>
      if v9 = 0 then (
        wob w10 a0 [24] ∧
        wp_X4_refuse w10 a0 (-2) (fun v21 w22 =>
        k v21 w22)
      ) else (
        wob w10 a0 [24] ∧
        wp_X4_hasPond w10 a0 a2 (fun v11 w12 =>
        if v11 = 0 then (
          wob w12 a0 [24] ∧
          wp_X4_cell w12 a0 a1 (fun v13 w14 =>
          wgG w14 (some a0) [24] 401 (fun v15 =>
          wst w14 v15 0 ((5 * a1) + 2) a2 (fun w16 =>
          wgG w16 (some a0) [24] 401 (fun v17 =>
          wst w16 v17 0 ((5 * a1) + 3) a3 (fun w18 =>
          k v13 w18)))))
        ) else (
          wob w12 a0 [24] ∧
          wp_X4_refuse w12 a0 (-5) (fun v19 w20 =>
          k v19 w20)
        ))
      ))
    ))
  ))
def wp_X4_isPond (w : Wd) (a0 : Nat) (a1 : Int32) (k : Int32 → Wd → Prop) : Prop :=
  wob w a0 [24] ∧
  wp_X4_isCell w a0 a1 (fun v1 w2 =>
  if v1 = 0 then (
    wob w2 a0 [24] ∧
    wp_X4_refuse w2 a0 (-2) (fun v3 w4 =>
    k v3 w4)
  ) else (
    wgG w2 (some a0) [24] 401 (fun v5 =>
    wp_X4_pondAt w2 a1 (fun v6 w7 =>
    wld w7 v5 0 v6 (fun v8 =>
    k v8 w7)))
  ))
def wp_X4_feed (w : Wd) (a0 : Nat) (a1 : Int32) (k : Int32 → Wd → Prop) : Prop :=
  wp_X4_isIn w (a1.toInt64) 0 255 (fun v1 w2 =>
  if v1 = 0 then (
    wob w2 a0 [24] ∧
    wp_X4_refuse w2 a0 (-2) (fun v12 w13 =>
    k v12 w13)
  ) else (
    wgF w2 (some a0) [24] 406 (fun v3 =>
    if v3 = 250 then (
      wob w2 a0 [24] ∧
      wp_X4_refuse w2 a0 (-6) (fun v10 w11 =>
      k v10 w11)
    ) else (
      wgG w2 (some a0) [24] 405 (fun v4 =>
      wgF w2 (some a0) [24] 406 (fun v5 =>
      wst w2 v4 0 v5 a1 (fun w6 =>
      wgF w6 (some a0) [24] 406 (fun v7 =>
      wpF w6 (some a0) [24] 406 (v7 + 1) (fun w8 =>
      wgF w8 (some a0) [24] 406 (fun v9 =>
      k v9 w8))))))
    ))
  ))
def wp_X4_wipe (w : Wd) (a0 : Nat) (k : Int32 → Wd → Prop) : Prop :=
  wgF w (some a0) [24] 406 (fun v1 =>
  wpF w (some a0) [24] 406 0 (fun w2 =>
  k v1 w2))
def wb_X4_move_2 (k : Wd → Prop) (L2 : Wd → Option Nat → Option Nat → Int32 → Prop) (w : Wd) (l0 : Option Nat) (l1 : Option Nat) (l2 : Int32) : Prop :=
    if (97 : Int32) ≤ l2 then (
      k w
    ) else (
      wld w l0 0 l2 (fun v1 =>
      wst w l1 0 l2 v1 (fun w2 =>
      L2 w2 l0 l1 (l2 + 1)))
    )
def wl_X4_move_2 (k : Wd → Prop) (n : Nat) : Wd → Option Nat → Option Nat → Int32 → Prop := Nat.rec (motive := fun _ => Wd → Option Nat → Option Nat → Int32 → Prop) (fun _ _ _ _ => False) (fun _ L => wb_X4_move_2 k L) n
theorem wl_X4_move_2_s (k : Wd → Prop) (n : Nat) : wl_X4_move_2 k (n + 1) = wb_X4_move_2 k (wl_X4_move_2 k n) := rfl
theorem wl_X4_move_2_0 (k : Wd → Prop) : wl_X4_move_2 k 0 = fun _ _ _ _ => False := rfl
def wp_X4_move (w : Wd) (a0 : Option Nat) (a1 : Option Nat) (k : Wd → Prop) : Prop :=
  wl_X4_move_2 k FU w a0 a1 0
def wp_X4_sortAt (w : Wd) (a0 : Nat) (a1 : Int32) (k : Int32 → Wd → Prop) : Prop :=
  wgF w (some a0) [24] 406 (fun v1 =>
  if a1 < v1 then (
    wgG w (some a0) [24] 405 (fun v2 =>
    wld w v2 0 a1 (fun v3 =>
    wp_X4_isIn w (v3.toInt64) 97 122 (fun v4 w5 =>
    if v4 = 0 then (
      wgG w5 (some a0) [24] 405 (fun v6 =>
      wld w5 v6 0 a1 (fun v7 =>
      wp_X4_isIn w5 (v7.toInt64) 48 57 (fun v8 w9 =>
      if v8 = 0 then (
        wgG w9 (some a0) [24] 405 (fun v10 =>
        wld w9 v10 0 a1 (fun v11 =>
        if v11 = 59 then (
          k 3 w9
        ) else (
          k 4 w9
        )))
      ) else (
        k 2 w9
      ))))
    ) else (
      k 1 w5
    ))))
  ) else (
    k 0 w
  ))
def wb_X4_next_75 (k : Wd → Prop) (L75 : Wd → Nat → Prop) (w : Wd) (a0 : Nat) : Prop :=
    wgF w (some a0) [24] 409 (fun v12 =>
    if (3 : Int32) ≤ v12 then (
      k w
    ) else (
      wgF w (some a0) [24] 407 (fun v13 =>
      wob w a0 [24] ∧
      wp_X4_sortAt w a0 v13 (fun v14 w15 =>
      wgF w15 (some a0) [24] 409 (fun v16 =>
      if v14 = v16 then (
        wgF w15 (some a0) [24] 407 (fun v17 =>
        wpF w15 (some a0) [24] 407 (v17 + 1) (fun w18 =>
        L75 w18 a0))
      ) else (
        k w15
      ))))
    ))
def wl_X4_next_75 (k : Wd → Prop) (n : Nat) : Wd → Nat → Prop := Nat.rec (motive := fun _ => Wd → Nat → Prop) (fun _ _ => False) (fun _ L => wb_X4_next_75 k L) n
theorem wl_X4_next_75_s (k : Wd → Prop) (n : Nat) : wl_X4_next_75 k (n + 1) = wb_X4_next_75 k (wl_X4_next_75 k n) := rfl
theorem wl_X4_next_75_0 (k : Wd → Prop) : wl_X4_next_75 k 0 = fun _ _ => False := rfl
def wb_X4_next_38 (k : Wd → Prop) (w : Wd) (a0 : Nat) : Prop :=
    wgF w (some a0) [24] 407 (fun v3 =>
    wpF w (some a0) [24] 408 v3 (fun w4 =>
    wgF w4 (some a0) [24] 407 (fun v5 =>
    wob w4 a0 [24] ∧
    wp_X4_sortAt w4 a0 v5 (fun v6 w7 =>
    wpF w7 (some a0) [24] 409 v6 (fun w8 =>
    wgF w8 (some a0) [24] 409 (fun v9 =>
    if v9 ≤ 0 then (
      k w8
    ) else (
      wgF w8 (some a0) [24] 407 (fun v10 =>
      wpF w8 (some a0) [24] 407 (v10 + 1) (fun w11 =>
      wl_X4_next_75 k FU w11 a0))
    )))))))
def wb_X4_next_0 (k : Wd → Prop) (L0 : Wd → Nat → Prop) (w : Wd) (a0 : Nat) : Prop :=
    wgF w (some a0) [24] 407 (fun v1 =>
    wgF w (some a0) [24] 406 (fun v2 =>
    if v2 ≤ v1 then (
      wb_X4_next_38 k w a0
    ) else (
      wgG w (some a0) [24] 405 (fun v19 =>
      wgF w (some a0) [24] 407 (fun v20 =>
      wld w v19 0 v20 (fun v21 =>
      if v21 = 32 then (
        wgF w (some a0) [24] 407 (fun v22 =>
        wpF w (some a0) [24] 407 (v22 + 1) (fun w23 =>
        L0 w23 a0))
      ) else (
        wb_X4_next_38 k w a0
      ))))
    )))
def wl_X4_next_0 (k : Wd → Prop) (n : Nat) : Wd → Nat → Prop := Nat.rec (motive := fun _ => Wd → Nat → Prop) (fun _ _ => False) (fun _ L => wb_X4_next_0 k L) n
theorem wl_X4_next_0_s (k : Wd → Prop) (n : Nat) : wl_X4_next_0 k (n + 1) = wb_X4_next_0 k (wl_X4_next_0 k n) := rfl
theorem wl_X4_next_0_0 (k : Wd → Prop) : wl_X4_next_0 k 0 = fun _ _ => False := rfl
def wp_X4_next (w : Wd) (a0 : Nat) (k : Wd → Prop) : Prop :=
  wl_X4_next_0 k FU w a0
def wb_X4_word_109 (k : Int32 → Wd → Prop) (L4 : Wd → Nat → Int32 → Int32 → Prop) (w : Wd) (a0 : Nat) (l1 : Int32) (l2 : Int32) (l3 : Int32) : Prop :=
    if l3 = 0 then (
      L4 w a0 l1 (l2 + 1)
    ) else (
      L4 w a0 l2 (l2 + 1)
    )
def wb_X4_word_82 (k : Int32 → Wd → Prop) (L4 : Wd → Nat → Int32 → Int32 → Prop) (L41 : Wd → Nat → Int32 → Int32 → Int32 → Int32 → Prop) (w : Wd) (a0 : Nat) (l1 : Int32) (l2 : Int32) (l4 : Int32) (s0 : Int32) : Prop :=
    wgG w (some a0) [24] 410 (fun v4 =>
    wld w v4 3 ((6 * l2) + l4) (fun v5 =>
    if s0 = v5 then (
      L41 w a0 l1 l2 1 (l4 + 1)
    ) else (
      L41 w a0 l1 l2 0 (l4 + 1)
    )))
def wb_X4_word_41 (k : Int32 → Wd → Prop) (L4 : Wd → Nat → Int32 → Int32 → Prop) (L41 : Wd → Nat → Int32 → Int32 → Int32 → Int32 → Prop) (w : Wd) (a0 : Nat) (l1 : Int32) (l2 : Int32) (l3 : Int32) (l4 : Int32) : Prop :=
    if (6 : Int32) ≤ l4 then (
      wb_X4_word_109 k L4 w a0 l1 l2 l3
    ) else (
      if l3 = 0 then (
        wb_X4_word_109 k L4 w a0 l1 l2 l3
      ) else (
        wgF w (some a0) [24] 408 (fun v2 =>
        wgF w (some a0) [24] 407 (fun v3 =>
        if v3 ≤ (v2 + l4) then (
          wb_X4_word_82 k L4 L41 w a0 l1 l2 l4 0
        ) else (
          wgG w (some a0) [24] 405 (fun v6 =>
          wgF w (some a0) [24] 408 (fun v7 =>
          wld w v6 0 (v7 + l4) (fun v8 =>
          wb_X4_word_82 k L4 L41 w a0 l1 l2 l4 v8)))
        )))
      )
    )
def wl_X4_word_41 (k : Int32 → Wd → Prop) (L4 : Wd → Nat → Int32 → Int32 → Prop) (n : Nat) : Wd → Nat → Int32 → Int32 → Int32 → Int32 → Prop := Nat.rec (motive := fun _ => Wd → Nat → Int32 → Int32 → Int32 → Int32 → Prop) (fun _ _ _ _ _ _ => False) (fun _ L => wb_X4_word_41 k L4 L) n
theorem wl_X4_word_41_s (k : Int32 → Wd → Prop) (L4 : Wd → Nat → Int32 → Int32 → Prop) (n : Nat) : wl_X4_word_41 k L4 (n + 1) = wb_X4_word_41 k L4 (wl_X4_word_41 k L4 n) := rfl
theorem wl_X4_word_41_0 (k : Int32 → Wd → Prop) (L4 : Wd → Nat → Int32 → Int32 → Prop) : wl_X4_word_41 k L4 0 = fun _ _ _ _ _ _ => False := rfl
def wb_X4_word_4 (k : Int32 → Wd → Prop) (L4 : Wd → Nat → Int32 → Int32 → Prop) (w : Wd) (a0 : Nat) (l1 : Int32) (l2 : Int32) : Prop :=
    if (8 : Int32) ≤ l2 then (
      k l1 w
    ) else (
      wgF w (some a0) [24] 409 (fun v1 =>
      if v1 = 1 then (
        wgF w (some a0) [24] 407 (fun v9 =>
        wgF w (some a0) [24] 408 (fun v10 =>
        if (6 : Int32) < (v9 - v10) then (
          wl_X4_word_41 k L4 FU w a0 l1 l2 0 0
        ) else (
          wl_X4_word_41 k L4 FU w a0 l1 l2 1 0
        )))
      ) else (
        wl_X4_word_41 k L4 FU w a0 l1 l2 0 0
      ))
    )
def wl_X4_word_4 (k : Int32 → Wd → Prop) (n : Nat) : Wd → Nat → Int32 → Int32 → Prop := Nat.rec (motive := fun _ => Wd → Nat → Int32 → Int32 → Prop) (fun _ _ _ _ => False) (fun _ L => wb_X4_word_4 k L) n
theorem wl_X4_word_4_s (k : Int32 → Wd → Prop) (n : Nat) : wl_X4_word_4 k (n + 1) = wb_X4_word_4 k (wl_X4_word_4 k n) := rfl
theorem wl_X4_word_4_0 (k : Int32 → Wd → Prop) : wl_X4_word_4 k 0 = fun _ _ _ _ => False := rfl
def wp_X4_word (w : Wd) (a0 : Nat) (k : Int32 → Wd → Prop) : Prop :=
  wl_X4_word_4 k FU w a0 (-1) 0
def wb_X4_number_35 (k : Int32 → Wd → Prop) (L35 : Wd → Nat → Int32 → Int32 → Int32 → Int32 → Prop) (w : Wd) (a0 : Nat) (l1 : Int32) (l2 : Int32) (l3 : Int32) (l4 : Int32) : Prop :=
    wgF w (some a0) [24] 407 (fun v6 =>
    if v6 ≤ l4 then (
      wp_X4_isIn w (l3.toInt64) (l1.toInt64) (l2.toInt64) (fun v7 w8 =>
      if v7 = 0 then (
        k (-1) w8
      ) else (
        k l3 w8
      ))
    ) else (
      wgG w (some a0) [24] 405 (fun v9 =>
      wld w v9 0 l4 (fun v10 =>
      L35 w a0 l1 l2 (((10 * l3) + v10) - 48) (l4 + 1)))
    ))
def wl_X4_number_35 (k : Int32 → Wd → Prop) (n : Nat) : Wd → Nat → Int32 → Int32 → Int32 → Int32 → Prop := Nat.rec (motive := fun _ => Wd → Nat → Int32 → Int32 → Int32 → Int32 → Prop) (fun _ _ _ _ _ _ => False) (fun _ L => wb_X4_number_35 k L) n
theorem wl_X4_number_35_s (k : Int32 → Wd → Prop) (n : Nat) : wl_X4_number_35 k (n + 1) = wb_X4_number_35 k (wl_X4_number_35 k n) := rfl
theorem wl_X4_number_35_0 (k : Int32 → Wd → Prop) : wl_X4_number_35 k 0 = fun _ _ _ _ _ _ => False := rfl
def wp_X4_number (w : Wd) (a0 : Nat) (a1 : Int32) (a2 : Int32) (k : Int32 → Wd → Prop) : Prop :=
  wob w a0 [24] ∧
  wp_X4_next w a0 (fun w1 =>
  wgF w1 (some a0) [24] 409 (fun v2 =>
  if v2 = 2 then (
    wgF w1 (some a0) [24] 407 (fun v3 =>
    wgF w1 (some a0) [24] 408 (fun v4 =>
    if (v3 - v4) ≤ 2 then (
      wgF w1 (some a0) [24] 408 (fun v5 =>
      wl_X4_number_35 k FU w1 a0 a1 a2 0 v5)
    ) else (
      k (-1) w1
    )))
  ) else (
    k (-1) w1
  )))
def wp_X4_cellNumber (w : Wd) (a0 : Nat) (k : Int32 → Wd → Prop) : Prop :=
  wob w a0 [24] ∧
  wp_X4_number w a0 0 99 (fun v1 w2 =>
  if v1 = (-1) then (
    k (-1) w2
  ) else (
    wob w2 a0 [24] ∧
    wp_X4_isCell w2 a0 v1 (fun v3 w4 =>
    if v3 = 0 then (
      k (-1) w4
    ) else (
      k v1 w4
    ))
  ))
def wb_X4_isPersonStatement_61 (k : Int32 → Wd → Prop) (w : Wd) (a0 : Nat) (l1 : Int32) (l2 : Int32) (l3 : Int32) (s0 : Int32) : Prop :=
    if s0 = (-1) then (
      k 0 w
    ) else (
      wob w a0 [24] ∧
      wp_X4_add w a0 l1 l2 l3 s0 (fun v7 w8 =>
      k 1 w8)
    )
def wb_X4_isPersonStatement_51 (k : Int32 → Wd → Prop) (w : Wd) (a0 : Nat) (l1 : Int32) (l2 : Int32) (l3 : Int32) : Prop :=
    wb_X4_isPersonStatement_61 k w a0 l1 l2 l3 (-1)
def wb_X4_isPersonStatement_37 (k : Int32 → Wd → Prop) (w : Wd) (a0 : Nat) (l1 : Int32) (l2 : Int32) (s0 : Int32) : Prop :=
    if s0 = (-1) then (
      wb_X4_isPersonStatement_51 k w a0 l1 l2 s0
    ) else (
      wob w a0 [24] ∧
      wp_X4_hasPond w a0 s0 (fun v9 w10 =>
      if v9 = 0 then (
        wob w10 a0 [24] ∧
        wp_X4_number w10 a0 0 3 (fun v11 w12 =>
        wb_X4_isPersonStatement_61 k w12 a0 l1 l2 s0 v11)
      ) else (
        wb_X4_isPersonStatement_51 k w10 a0 l1 l2 s0
      ))
    )
def wb_X4_isPersonStatement_23 (k : Int32 → Wd → Prop) (w : Wd) (a0 : Nat) (l1 : Int32) (s0 : Int32) : Prop :=
    if s0 = (-1) then (
      wb_X4_isPersonStatement_37 k w a0 l1 s0 (-1)
    ) else (
      wob w a0 [24] ∧
      wp_X4_cellNumber w a0 (fun v5 w6 =>
      wb_X4_isPersonStatement_37 k w6 a0 l1 s0 v5)
    )
def wp_X4_isPersonStatement (w : Wd) (a0 : Nat) (k : Int32 → Wd → Prop) : Prop :=
  wob w a0 [24] ∧
  wp_X4_number w a0 0 5 (fun v1 w2 =>
  if v1 = (-1) then (
    wb_X4_isPersonStatement_23 k w2 a0 v1 (-1)
  ) else (
    wob w2 a0 [24] ∧
    wp_X4_number w2 a0 0 9 (fun v3 w4 =>
    wb_X4_isPersonStatement_23 k w4 a0 v1 v3)
  ))
def wb_X4_isStatement_75 (k : Int32 → Wd → Prop) (w : Wd) (a0 : Nat) (l1 : Int32) (l2 : Int32) : Prop :=
    wgG w (some a0) [24] 401 (fun v6 =>
    wp_X4_pondAt w l2 (fun v7 w8 =>
    wst w8 v6 0 v7 (2 - l1) (fun w9 =>
    k 1 w9)))
def wb_X4_isStatement_50 (k : Int32 → Wd → Prop) (w : Wd) (a0 : Nat) (l1 : Int32) : Prop :=
    wob w a0 [24] ∧
    wp_X4_cellNumber w a0 (fun v4 w5 =>
    if v4 = (-1) then (
      k 0 w5
    ) else (
      if l1 = 1 then (
        wob w5 a0 [24] ∧
        wp_X4_isSomebody w5 a0 v4 (fun v10 w11 =>
        if v10 = 0 then (
          wb_X4_isStatement_75 k w11 a0 l1 v4
        ) else (
          k 0 w11
        ))
      ) else (
        wb_X4_isStatement_75 k w5 a0 l1 v4
      )
    ))
def wb_X4_isStatement_172 (k : Int32 → Wd → Prop) (w : Wd) (a0 : Nat) (l2 : Int32) (s0 : Option Nat) (s1 : Int32) (s2 : Int32) : Prop :=
    wnn s0 (fun b14 =>
    wob w b14 [24] ∧
    wp_X4_number w b14 s1 s2 (fun v12 w13 =>
    if v12 = (-1) then (
      k 0 w13
    ) else (
      wgG w13 (some a0) [24] 401 (fun v15 =>
      wst w13 v15 0 l2 v12 (fun w16 =>
      k 1 w16))
    )))
def wb_X4_isStatement_151 (k : Int32 → Wd → Prop) (w : Wd) (a0 : Nat) (l1 : Int32) (l2 : Int32) (s0 : Option Nat) (s1 : Int32) : Prop :=
    if l1 = 0 then (
      wb_X4_isStatement_172 k w a0 l2 s0 s1 7
    ) else (
      if l1 = 7 then (
        wb_X4_isStatement_172 k w a0 l2 s0 s1 12
      ) else (
        wb_X4_isStatement_172 k w a0 l2 s0 s1 1
      )
    )
def wb_X4_isStatement_135 (k : Int32 → Wd → Prop) (w : Wd) (a0 : Nat) (l1 : Int32) (l2 : Int32) : Prop :=
    if l1 = 0 then (
      wgG w (some a0) [24] 401 (fun v17 =>
      wld w v17 0 90 (fun v18 =>
      wb_X4_isStatement_151 k w a0 l1 l2 (some a0) v18))
    ) else (
      wb_X4_isStatement_151 k w a0 l1 l2 (some a0) 0
    )
def wb_X4_isStatement_104 (k : Int32 → Wd → Prop) (w : Wd) (a0 : Nat) (l1 : Int32) (s0 : Int32) : Prop :=
    if l1 = 4 then (
      wob w a0 [24] ∧
      wp_X4_many w a0 (fun v19 w20 =>
      wob w20 a0 [24] ∧
      wp_X4_number w20 a0 0 (v19 - 1) (fun v21 w22 =>
      if v21 = (-1) then (
        k 0 w22
      ) else (
        wb_X4_isStatement_135 k w22 a0 l1 ((5 * v21) + 4)
      )))
    ) else (
      wb_X4_isStatement_135 k w a0 l1 s0
    )
def wb_X4_isStatement_30 (k : Int32 → Wd → Prop) (w : Wd) (a0 : Nat) (l1 : Int32) : Prop :=
    if l1 = 3 then (
      wob w a0 [24] ∧
      wp_X4_isPersonStatement w a0 (fun v23 w24 =>
      (narrow .boolean (.int v23) = .int v23) ∧ k v23 w24)
    ) else (
      if l1 = 1 then (
        wb_X4_isStatement_50 k w a0 l1
      ) else (
        if l1 = 2 then (
          wb_X4_isStatement_50 k w a0 l1
        ) else (
          if l1 = 0 then (
            wb_X4_isStatement_104 k w a0 l1 90
          ) else (
            wb_X4_isStatement_104 k w a0 l1 ((91 + l1) - 5)
          )
        )
      )
    )
def wp_X4_isStatement (w : Wd) (a0 : Nat) (k : Int32 → Wd → Prop) : Prop :=
  wob w a0 [24] ∧
  wp_X4_next w a0 (fun w1 =>
  wob w1 a0 [24] ∧
  wp_X4_word w1 a0 (fun v2 w3 =>
  if v2 = (-1) then (
    k 0 w3
  ) else (
    if v2 = 3 then (
      wob w3 a0 [24] ∧
      wp_X4_many w3 a0 (fun v25 w26 =>
      if v25 = 8 then (
        k 0 w26
      ) else (
        wb_X4_isStatement_30 k w26 a0 v2
      ))
    ) else (
      wb_X4_isStatement_30 k w3 a0 v2
    )
  )))
def wb_X4_island_23 (k : Int32 → Wd → Prop) (L23 : Wd → Nat → Int32 → Int32 → Prop) (w : Wd) (a0 : Nat) (l1 : Int32) (l2 : Int32) : Prop :=
    if l2 = 0 then (
      wgG w (some a0) [24] 403 (fun v7 =>
      wgG w (some a0) [24] 401 (fun v8 =>
      wp_X4_move w v7 v8 (fun w9 =>
      wpF w9 (some a0) [24] 406 0 (fun w10 =>
      wob w10 a0 [24] ∧
      wp_X4_refuse w10 a0 (-2) (fun v11 w12 =>
      wgF w12 (some a0) [24] 408 (fun v13 =>
      k ((-20) - v13) w12))))))
    ) else (
      wob w a0 [24] ∧
      wp_X4_next w a0 (fun w14 =>
      wgF w14 (some a0) [24] 409 (fun v15 =>
      if v15 = 0 then (
        wpF w14 (some a0) [24] 406 0 (fun w19 =>
        k (l1 + 1) w19)
      ) else (
        wgF w14 (some a0) [24] 409 (fun v16 =>
        if v16 = 3 then (
          wob w14 a0 [24] ∧
          wp_X4_isStatement w14 a0 (fun v17 w18 =>
          if v17 = 0 then (
            L23 w18 a0 (l1 + 1) 0
          ) else (
            L23 w18 a0 (l1 + 1) 1
          ))
        ) else (
          L23 w14 a0 (l1 + 1) 0
        ))
      )))
    )
def wl_X4_island_23 (k : Int32 → Wd → Prop) (n : Nat) : Wd → Nat → Int32 → Int32 → Prop := Nat.rec (motive := fun _ => Wd → Nat → Int32 → Int32 → Prop) (fun _ _ _ _ => False) (fun _ L => wb_X4_island_23 k L) n
theorem wl_X4_island_23_s (k : Int32 → Wd → Prop) (n : Nat) : wl_X4_island_23 k (n + 1) = wb_X4_island_23 k (wl_X4_island_23 k n) := rfl
theorem wl_X4_island_23_0 (k : Int32 → Wd → Prop) : wl_X4_island_23 k 0 = fun _ _ _ _ => False := rfl
def wp_X4_island (w : Wd) (a0 : Nat) (k : Int32 → Wd → Prop) : Prop :=
  wgG w (some a0) [24] 401 (fun v1 =>
  wgG w (some a0) [24] 403 (fun v2 =>
  wp_X4_move w v1 v2 (fun w3 =>
  wpF w3 (some a0) [24] 407 0 (fun w4 =>
  wob w4 a0 [24] ∧
  wp_X4_isStatement w4 a0 (fun v5 w6 =>
  wl_X4_island_23 k FU w6 a0 0 v5)))))
def wp_X4_isShelf (w : Wd) (a0 : Int32) (k : Int32 → Wd → Prop) : Prop :=
  wp_X4_isIn w (a0.toInt64) 0 7 (fun v1 w2 =>
  (narrow .boolean (.int v1) = .int v1) ∧ k v1 w2)
def wb_X4_row_55 (k : Int32 → Wd → Prop) (L55 : Wd → Nat → Int32 → Int32 → Prop) (w : Wd) (a0 : Nat) (l1 : Int32) (l4 : Int32) : Prop :=
    if (40 : Int32) ≤ l4 then (
      k 1 w
    ) else (
      wgG w (some a0) [24] 421 (fun v15 =>
      wstL w v15 ((40 * l1) + l4) 0 (fun w16 =>
      L55 w16 a0 l1 (l4 + 1)))
    )
def wl_X4_row_55 (k : Int32 → Wd → Prop) (n : Nat) : Wd → Nat → Int32 → Int32 → Prop := Nat.rec (motive := fun _ => Wd → Nat → Int32 → Int32 → Prop) (fun _ _ _ _ => False) (fun _ L => wb_X4_row_55 k L) n
theorem wl_X4_row_55_s (k : Int32 → Wd → Prop) (n : Nat) : wl_X4_row_55 k (n + 1) = wb_X4_row_55 k (wl_X4_row_55 k n) := rfl
theorem wl_X4_row_55_0 (k : Int32 → Wd → Prop) : wl_X4_row_55 k 0 = fun _ _ _ _ => False := rfl
def wp_X4_row (w : Wd) (a0 : Nat) (a1 : Int32) (a2 : Int32) (a3 : Int32) (k : Int32 → Wd → Prop) : Prop :=
  wp_X4_isShelf w a1 (fun v1 w2 =>
  if v1 = 0 then (
    wob w2 a0 [24] ∧
    wp_X4_refuse w2 a0 (-2) (fun v3 w4 =>
    k v3 w4)
  ) else (
    wp_X4_isIn w2 (a2.toInt64) 0 4 (fun v5 w6 =>
    if v5 = 0 then (
      wob w6 a0 [24] ∧
      wp_X4_refuse w6 a0 (-2) (fun v7 w8 =>
      k v7 w8)
    ) else (
      wp_X4_isIn w6 (a3.toInt64) 0 40 (fun v9 w10 =>
      if v9 = 0 then (
        wob w10 a0 [24] ∧
        wp_X4_refuse w10 a0 (-2) (fun v17 w18 =>
        k v17 w18)
      ) else (
        wgG w10 (some a0) [24] 419 (fun v11 =>
        wst w10 v11 0 a1 a2 (fun w12 =>
        wgG w12 (some a0) [24] 420 (fun v13 =>
        wst w12 v13 0 a1 a3 (fun w14 =>
        wl_X4_row_55 k FU w14 a0 a1 0))))
      ))
    ))
  ))
def wp_X4_rowIn (w : Wd) (a0 : Nat) (a1 : Int32) (k : Int32 → Wd → Prop) : Prop :=
  wgG w (some a0) [24] 419 (fun v1 =>
  wld w v1 0 a1 (fun v2 =>
  if v2 < 10 then (
    wgG w (some a0) [24] 419 (fun v3 =>
    wld w v3 0 a1 (fun v4 =>
    if v4 = (-1) then (
      k (-4) w
    ) else (
      k 1 w
    )))
  ) else (
    k (-3) w
  )))
def wp_X4_set (w : Wd) (a0 : Nat) (a1 : Int32) (a2 : Int32) (a3 : Int64) (k : Int32 → Wd → Prop) : Prop :=
  wp_X4_isShelf w a1 (fun v1 w2 =>
  if v1 = 0 then (
    wob w2 a0 [24] ∧
    wp_X4_refuse w2 a0 (-2) (fun v24 w25 =>
    k v24 w25)
  ) else (
    wob w2 a0 [24] ∧
    wp_X4_rowIn w2 a0 a1 (fun v3 w4 =>
    if (0 : Int32) ≤ v3 then (
      wgG w4 (some a0) [24] 420 (fun v5 =>
      wld w4 v5 0 a1 (fun v6 =>
      wp_X4_isIn w4 (a2.toInt64) 0 ((v6 - 1).toInt64) (fun v7 w8 =>
      if v7 = 0 then (
        wob w8 a0 [24] ∧
        wp_X4_refuse w8 a0 (-2) (fun v18 w19 =>
        k v18 w19)
      ) else (
        wgG w8 (some a0) [24] 419 (fun v9 =>
        wld w8 v9 0 a1 (fun v10 =>
        wgG w8 (some a0) [24] 421 (fun v11 =>
        if v10 = 0 then (
          wstL w8 v11 ((40 * a1) + a2) (((a3.toInt32).toInt8.toInt32).toInt64) (fun w17 =>
          k 1 w17)
        ) else (
          if v10 = 1 then (
            wstL w8 v11 ((40 * a1) + a2) (((a3.toInt32).toInt16.toInt32).toInt64) (fun w16 =>
            k 1 w16)
          ) else (
            if v10 = 2 then (
              wstL w8 v11 ((40 * a1) + a2) ((a3.toInt32).toInt64) (fun w15 =>
              k 1 w15)
            ) else (
              if v10 = 3 then (
                wstL w8 v11 ((40 * a1) + a2) a3 (fun w14 =>
                k 1 w14)
              ) else (
                if (lg_cmp a3 0) = 0 then (
                  wstL w8 v11 ((40 * a1) + a2) 0 (fun w12 =>
                  k 1 w12)
                ) else (
                  wstL w8 v11 ((40 * a1) + a2) 1 (fun w13 =>
                  k 1 w13)
                )
              )
            )
          )
        ))))
      ))))
    ) else (
      wob w4 a0 [24] ∧
      wp_X4_rowIn w4 a0 a1 (fun v20 w21 =>
      wob w21 a0 [24] ∧
      wp_X4_refuse w21 a0 v20 (fun v22 w23 =>
      k v22 w23))
    ))
  ))
def wb_X4_copy_197 (k : Int32 → Wd → Prop) (L197 : Wd → Nat → Int32 → Int32 → Int32 → Int32 → Prop) (w : Wd) (a0 : Nat) (l2 : Int32) (l4 : Int32) (l5 : Int32) (l7 : Int32) : Prop :=
    if l5 ≤ l7 then (
      k l5 w
    ) else (
      wgG w (some a0) [24] 421 (fun v29 =>
      wgG w (some a0) [24] 422 (fun v30 =>
      wldL w v30 l7 (fun v31 =>
      wstL w v29 (((40 * l2) + l4) + l7) v31 (fun w32 =>
      L197 w32 a0 l2 l4 l5 (l7 + 1)))))
    )
def wl_X4_copy_197 (k : Int32 → Wd → Prop) (n : Nat) : Wd → Nat → Int32 → Int32 → Int32 → Int32 → Prop := Nat.rec (motive := fun _ => Wd → Nat → Int32 → Int32 → Int32 → Int32 → Prop) (fun _ _ _ _ _ _ => False) (fun _ L => wb_X4_copy_197 k L) n
theorem wl_X4_copy_197_s (k : Int32 → Wd → Prop) (n : Nat) : wl_X4_copy_197 k (n + 1) = wb_X4_copy_197 k (wl_X4_copy_197 k n) := rfl
theorem wl_X4_copy_197_0 (k : Int32 → Wd → Prop) : wl_X4_copy_197 k 0 = fun _ _ _ _ _ _ => False := rfl
def wb_X4_copy_160 (k : Int32 → Wd → Prop) (L160 : Wd → Nat → Int32 → Int32 → Int32 → Int32 → Int32 → Int32 → Prop) (w : Wd) (a0 : Nat) (l1 : Int32) (l2 : Int32) (l3 : Int32) (l4 : Int32) (l5 : Int32) (l7 : Int32) : Prop :=
    if l5 ≤ l7 then (
      wl_X4_copy_197 k FU w a0 l2 l4 l5 0
    ) else (
      wgG w (some a0) [24] 422 (fun v33 =>
      wgG w (some a0) [24] 421 (fun v34 =>
      wldL w v34 (((40 * l1) + l3) + l7) (fun v35 =>
      wstL w v33 l7 v35 (fun w36 =>
      L160 w36 a0 l1 l2 l3 l4 l5 (l7 + 1)))))
    )
def wl_X4_copy_160 (k : Int32 → Wd → Prop) (n : Nat) : Wd → Nat → Int32 → Int32 → Int32 → Int32 → Int32 → Int32 → Prop := Nat.rec (motive := fun _ => Wd → Nat → Int32 → Int32 → Int32 → Int32 → Int32 → Int32 → Prop) (fun _ _ _ _ _ _ _ _ => False) (fun _ L => wb_X4_copy_160 k L) n
theorem wl_X4_copy_160_s (k : Int32 → Wd → Prop) (n : Nat) : wl_X4_copy_160 k (n + 1) = wb_X4_copy_160 k (wl_X4_copy_160 k n) := rfl
theorem wl_X4_copy_160_0 (k : Int32 → Wd → Prop) : wl_X4_copy_160 k 0 = fun _ _ _ _ _ _ _ _ => False := rfl
def wb_X4_copy_97 (k : Int32 → Wd → Prop) (w : Wd) (a0 : Nat) (l1 : Int32) (l2 : Int32) (l3 : Int32) (l4 : Int32) (l5 : Int32) (l6 : Int32) : Prop :=
    if l6 = 0 then (
      wob w a0 [24] ∧
      wp_X4_refuse w a0 (-4) (fun v39 w40 =>
      k v39 w40)
    ) else (
      if l5 < 0 then (
        wob w a0 [24] ∧
        wp_X4_refuse w a0 (-2) (fun v17 w18 =>
        k v17 w18)
      ) else (
        if l3 < 0 then (
          wob w a0 [24] ∧
          wp_X4_refuse w a0 (-2) (fun v19 w20 =>
          k v19 w20)
        ) else (
          if l4 < 0 then (
            wob w a0 [24] ∧
            wp_X4_refuse w a0 (-2) (fun v21 w22 =>
            k v21 w22)
          ) else (
            wgG w (some a0) [24] 420 (fun v23 =>
            wld w v23 0 l1 (fun v24 =>
            if (v24 - l3) < l5 then (
              wob w a0 [24] ∧
              wp_X4_refuse w a0 (-2) (fun v25 w26 =>
              k v25 w26)
            ) else (
              wgG w (some a0) [24] 420 (fun v27 =>
              wld w v27 0 l2 (fun v28 =>
              if l5 ≤ (v28 - l4) then (
                wl_X4_copy_160 k FU w a0 l1 l2 l3 l4 l5 0
              ) else (
                wob w a0 [24] ∧
                wp_X4_refuse w a0 (-2) (fun v37 w38 =>
                k v37 w38)
              )))
            )))
          )
        )
      )
    )
def wb_X4_copy_46 (k : Int32 → Wd → Prop) (w : Wd) (a0 : Nat) (l1 : Int32) (l2 : Int32) (l3 : Int32) (l4 : Int32) (l5 : Int32) (s0 : Int32) : Prop :=
    wgG w (some a0) [24] 419 (fun v9 =>
    wld w v9 0 l1 (fun v10 =>
    if (10 : Int32) ≤ v10 then (
      wob w a0 [24] ∧
      wp_X4_refuse w a0 (-3) (fun v11 w12 =>
      k v11 w12)
    ) else (
      wgG w (some a0) [24] 419 (fun v13 =>
      wld w v13 0 l2 (fun v14 =>
      if (10 : Int32) ≤ v14 then (
        wob w a0 [24] ∧
        wp_X4_refuse w a0 (-3) (fun v15 w16 =>
        k v15 w16)
      ) else (
        if s0 = 0 then (
          wb_X4_copy_97 k w a0 l1 l2 l3 l4 l5 s0
        ) else (
          wgG w (some a0) [24] 419 (fun v41 =>
          wld w v41 0 l1 (fun v42 =>
          wgG w (some a0) [24] 419 (fun v43 =>
          wld w v43 0 l2 (fun v44 =>
          if v42 = v44 then (
            wb_X4_copy_97 k w a0 l1 l2 l3 l4 l5 s0
          ) else (
            wob w a0 [24] ∧
            wp_X4_refuse w a0 (-3) (fun v45 w46 =>
            k v45 w46)
          )))))
        )
      )))
    )))
def wb_X4_copy_45 (k : Int32 → Wd → Prop) (w : Wd) (a0 : Nat) (l1 : Int32) (l2 : Int32) (l3 : Int32) (l4 : Int32) (l5 : Int32) : Prop :=
    wb_X4_copy_46 k w a0 l1 l2 l3 l4 l5 0
def wp_X4_copy (w : Wd) (a0 : Nat) (a1 : Int32) (a2 : Int32) (a3 : Int32) (a4 : Int32) (a5 : Int32) (k : Int32 → Wd → Prop) : Prop :=
  wp_X4_isShelf w a1 (fun v1 w2 =>
  if v1 = 0 then (
    wob w2 a0 [24] ∧
    wp_X4_refuse w2 a0 (-2) (fun v3 w4 =>
    k v3 w4)
  ) else (
    wp_X4_isShelf w2 a2 (fun v5 w6 =>
    if v5 = 0 then (
      wob w6 a0 [24] ∧
      wp_X4_refuse w6 a0 (-2) (fun v49 w50 =>
      k v49 w50)
    ) else (
      wgG w6 (some a0) [24] 419 (fun v7 =>
      wld w6 v7 0 a1 (fun v8 =>
      if v8 = (-1) then (
        wb_X4_copy_45 k w6 a0 a1 a2 a3 a4 a5
      ) else (
        wgG w6 (some a0) [24] 419 (fun v47 =>
        wld w6 v47 0 a2 (fun v48 =>
        if v48 = (-1) then (
          wb_X4_copy_45 k w6 a0 a1 a2 a3 a4 a5
        ) else (
          wb_X4_copy_46 k w6 a0 a1 a2 a3 a4 a5 1
        )))
      )))
    ))
  ))
def wp_X4_element (w : Wd) (a0 : Nat) (a1 : Int32) (a2 : Int32) (k : Int64 → Wd → Prop) : Prop :=
  wp_X4_isShelf w a1 (fun v1 w2 =>
  if v1 = 0 then (
    k 0 w2
  ) else (
    wgG w2 (some a0) [24] 419 (fun v3 =>
    wld w2 v3 0 a1 (fun v4 =>
    wp_X4_isIn w2 (v4.toInt64) 0 4 (fun v5 w6 =>
    if v5 = 0 then (
      k 0 w6
    ) else (
      wgG w6 (some a0) [24] 420 (fun v7 =>
      wld w6 v7 0 a1 (fun v8 =>
      wp_X4_isIn w6 (a2.toInt64) 0 ((v8 - 1).toInt64) (fun v9 w10 =>
      if v9 = 0 then (
        k 0 w10
      ) else (
        wgG w10 (some a0) [24] 421 (fun v11 =>
        wldL w10 v11 ((40 * a1) + a2) (fun v12 =>
        k v12 w10))
      ))))
    ))))
  ))
def wp_X4_holds (w : Wd) (a0 : Nat) (a1 : Int32) (k : Int32 → Wd → Prop) : Prop :=
  wp_X4_isShelf w a1 (fun v1 w2 =>
  if v1 = 0 then (
    k (-1) w2
  ) else (
    wgG w2 (some a0) [24] 419 (fun v3 =>
    wld w2 v3 0 a1 (fun v4 =>
    k v4 w2))
  ))
def wb_X4_show_27 (k : Int32 → Wd → Prop) (w : Wd) (a0 : Nat) (l1 : Int32) (l2 : Int32) : Prop :=
    wgG w (some a0) [24] 419 (fun v5 =>
    if l2 = (-1) then (
      wst w v5 0 l1 (-1) (fun w7 =>
      k 1 w7)
    ) else (
      wst w v5 0 l1 (10 + l2) (fun w6 =>
      k 1 w6)
    ))
def wp_X4_show (w : Wd) (a0 : Nat) (a1 : Int32) (a2 : Int32) (k : Int32 → Wd → Prop) : Prop :=
  wp_X4_isShelf w a1 (fun v1 w2 =>
  if v1 = 0 then (
    wob w2 a0 [24] ∧
    wp_X4_refuse w2 a0 (-2) (fun v3 w4 =>
    k v3 w4)
  ) else (
    if a2 = (-1) then (
      wb_X4_show_27 k w2 a0 a1 a2
    ) else (
      wob w2 a0 [24] ∧
      wp_X4_isPerson w2 a0 a2 (fun v8 w9 =>
      if v8 = 0 then (
        wob w9 a0 [24] ∧
        wp_X4_refuse w9 a0 (-2) (fun v10 w11 =>
        k v10 w11)
      ) else (
        wb_X4_show_27 k w9 a0 a1 a2
      ))
    )
  ))
def wp_X4_kind (w : Wd) (a0 : Nat) (a1 : Int32) (k : Int32 → Wd → Prop) : Prop :=
  wgG w (some a0) [24] 401 (fun v1 =>
  wld w v1 0 (5 * a1) (fun v2 =>
  k v2 w))
def wp_X4_faces (w : Wd) (a0 : Nat) (a1 : Int32) (k : Int32 → Wd → Prop) : Prop :=
  wgG w (some a0) [24] 401 (fun v1 =>
  wld w v1 0 ((5 * a1) + 3) (fun v2 =>
  k v2 w))
def wp_X4_start (w : Wd) (a0 : Nat) (a1 : Int32) (a2 : Int32) (a3 : Int32) (k : Wd → Prop) : Prop :=
  wgG w (some a0) [24] 411 (fun v1 =>
  wst w v1 0 a1 a2 (fun w2 =>
  wgG w2 (some a0) [24] 412 (fun v3 =>
  wst w2 v3 0 a1 a3 (fun w4 =>
  wgG w4 (some a0) [24] 413 (fun v5 =>
  wst w4 v5 0 a1 0 (fun w6 =>
  wgG w6 (some a0) [24] 416 (fun v7 =>
  wst w6 v7 0 a1 (-1) (fun w8 =>
  k w8))))))))
def wb_X4_beside_47 (k : Int32 → Wd → Prop) (w : Wd) (a0 : Nat) (l3 : Int32) (s0 : Int32) (s1 : Int32) : Prop :=
    wgG w (some a0) [24] 401 (fun v1 =>
    wld w v1 0 90 (fun v2 =>
    wp_X4_isIn w (l3.toInt64) 0 ((v2 - 1).toInt64) (fun v3 w4 =>
    if v3 = 0 then (
      k (-1) w4
    ) else (
      wgG w4 (some a0) [24] 401 (fun v5 =>
      wld w4 v5 0 90 (fun v6 =>
      wp_X4_isIn w4 ((s0 + s1).toInt64) 0 ((v6 - 1).toInt64) (fun v7 w8 =>
      if v7 = 0 then (
        k (-1) w8
      ) else (
        k ((10 * l3) + (s0 + s1)) w8
      ))))
    ))))
def wb_X4_beside_22 (k : Int32 → Wd → Prop) (w : Wd) (a0 : Nat) (l1 : Int32) (l2 : Int32) (s0 : Int32) (s1 : Int32) : Prop :=
    if l2 = 3 then (
      wb_X4_beside_47 k w a0 (s0 + s1) (l1 - l1 / 10 * 10) (-1)
    ) else (
      if l2 = 1 then (
        wb_X4_beside_47 k w a0 (s0 + s1) (l1 - l1 / 10 * 10) 1
      ) else (
        wb_X4_beside_47 k w a0 (s0 + s1) (l1 - l1 / 10 * 10) 0
      )
    )
def wp_X4_beside (w : Wd) (a0 : Nat) (a1 : Int32) (a2 : Int32) (k : Int32 → Wd → Prop) : Prop :=
  if a2 = 0 then (
    wb_X4_beside_22 k w a0 a1 a2 (a1 / 10) (-1)
  ) else (
    if a2 = 2 then (
      wb_X4_beside_22 k w a0 a1 a2 (a1 / 10) 1
    ) else (
      wb_X4_beside_22 k w a0 a1 a2 (a1 / 10) 0
    )
  )
def wb_X4_isShore_4 (k : Int32 → Wd → Prop) (L4 : Wd → Nat → Int32 → Int32 → Int32 → Prop) (w : Wd) (a0 : Nat) (l1 : Int32) (l2 : Int32) (l3 : Int32) : Prop :=
    if (4 : Int32) ≤ l3 then (
      (narrow .boolean (.int l2) = .int l2) ∧ k l2 w
    ) else (
      wob w a0 [24] ∧
      wp_X4_beside w a0 l1 l3 (fun v1 w2 =>
      if l2 = 0 then (
        if v1 = (-1) then (
          L4 w2 a0 l1 0 (l3 + 1)
        ) else (
          wob w2 a0 [24] ∧
          wp_X4_hasPond w2 a0 v1 (fun v3 w4 =>
          if v3 = 0 then (
            L4 w4 a0 l1 0 (l3 + 1)
          ) else (
            L4 w4 a0 l1 1 (l3 + 1)
          ))
        )
      ) else (
        L4 w2 a0 l1 1 (l3 + 1)
      ))
    )
def wl_X4_isShore_4 (k : Int32 → Wd → Prop) (n : Nat) : Wd → Nat → Int32 → Int32 → Int32 → Prop := Nat.rec (motive := fun _ => Wd → Nat → Int32 → Int32 → Int32 → Prop) (fun _ _ _ _ _ => False) (fun _ L => wb_X4_isShore_4 k L) n
theorem wl_X4_isShore_4_s (k : Int32 → Wd → Prop) (n : Nat) : wl_X4_isShore_4 k (n + 1) = wb_X4_isShore_4 k (wl_X4_isShore_4 k n) := rfl
theorem wl_X4_isShore_4_0 (k : Int32 → Wd → Prop) : wl_X4_isShore_4 k 0 = fun _ _ _ _ _ => False := rfl
def wp_X4_isShore (w : Wd) (a0 : Nat) (a1 : Int32) (k : Int32 → Wd → Prop) : Prop :=
  wl_X4_isShore_4 k FU w a0 a1 0 0
def wp_X4_goesBy (w : Wd) (a0 : Nat) (a1 : Int32) (a2 : Int32) (a3 : Int32) (k : Int32 → Wd → Prop) : Prop :=
  wgG w (some a0) [24] 401 (fun v1 =>
  wld w v1 0 91 (fun v2 =>
  wob w a0 [24] ∧
  wp_X4_kind w a0 a2 (fun v3 w4 =>
  if v3 = 0 then (
    k v2 w4
  ) else (
  if v3 = 1 then (
    wgG w4 (some a0) [24] 401 (fun v5 =>
    wld w4 v5 0 92 (fun v6 =>
    k v6 w4))
  ) else (
  if v3 = 2 then (
    wgG w4 (some a0) [24] 413 (fun v7 =>
    wld w4 v7 0 a1 (fun v8 =>
    if (v8 - v8 / 2 * 2) = 0 then (
      k v2 w4
    ) else (
      k (1 - v2) w4
    )))
  ) else (
  if v3 = 3 then (
    wob w4 a0 [24] ∧
    wp_X4_isFor_2 w4 a0 a2 (fun v9 w10 =>
    k v9 w10)
  ) else (
  if v3 = 4 then (
    wgG w4 (some a0) [24] 411 (fun v11 =>
    wld w4 v11 0 a1 (fun v12 =>
    wob w4 a0 [24] ∧
    wp_X4_isShore w4 a0 v12 (fun v13 w14 =>
    if v13 = 0 then (
      k v2 w14
    ) else (
      k (1 - v2) w14
    ))))
  ) else (
    wgG w4 (some a0) [24] 413 (fun v15 =>
    wld w4 v15 0 a1 (fun v16 =>
    if v16 = 0 then (
      k v2 w4
    ) else (
      wgG w4 (some a0) [24] 414 (fun v17 =>
      wld w4 v17 0 a1 (fun v18 =>
      if v18 = a3 then (
        wgG w4 (some a0) [24] 415 (fun v21 =>
        wld w4 v21 0 a1 (fun v22 =>
        k (1 - v22) w4))
      ) else (
        wgG w4 (some a0) [24] 415 (fun v19 =>
        wld w4 v19 0 a1 (fun v20 =>
        k v20 w4))
      )))
    )))
  ))))))))
def wb_X4_step_133 (k : Wd → Prop) (w : Wd) (a0 : Nat) (l1 : Int32) (l3 : Int32) (l5 : Int32) (s0 : Option Nat) (s1 : Int32) (s2 : Int32) (s3 : Int32) : Prop :=
    wst w s0 0 s1 ((s2 + s3) - (s2 + s3) / 4 * 4) (fun w8 =>
    wgG w8 (some a0) [24] 413 (fun v9 =>
    wld w8 v9 0 l1 (fun v10 =>
    wst w8 v9 0 l1 (v10 + 1) (fun w11 =>
    wgG w11 (some a0) [24] 414 (fun v12 =>
    wst w11 v12 0 l1 l3 (fun w13 =>
    wgG w13 (some a0) [24] 415 (fun v14 =>
    wst w13 v14 0 l1 l5 (fun w15 =>
    k w15))))))))
def wb_X4_step_125 (k : Wd → Prop) (w : Wd) (a0 : Nat) (l1 : Int32) (l3 : Int32) (l5 : Int32) (s0 : Option Nat) (s1 : Int32) (s2 : Int32) (s3 : Int32) (s4 : Int32) : Prop :=
    if s3 = s4 then (
      wb_X4_step_133 k w a0 l1 l3 l5 s0 s1 s2 1
    ) else (
      wb_X4_step_133 k w a0 l1 l3 l5 s0 s1 s2 3
    )
def wb_X4_step_115 (k : Wd → Prop) (w : Wd) (a0 : Nat) (l1 : Int32) (l3 : Int32) (l5 : Int32) (s0 : Option Nat) (s1 : Int32) (s2 : Int32) (s3 : Int32) : Prop :=
    if l3 = 1 then (
      wb_X4_step_125 k w a0 l1 l3 l5 s0 s1 s2 s3 1
    ) else (
      wb_X4_step_125 k w a0 l1 l3 l5 s0 s1 s2 s3 0
    )
def wp_X4_step (w : Wd) (a0 : Nat) (a1 : Int32) (a2 : Int32) (a3 : Int32) (a4 : Int32) (k : Wd → Prop) : Prop :=
  wgG w (some a0) [24] 416 (fun v1 =>
  wld w v1 0 a1 (fun v2 =>
  if v2 = (-1) then (
    if a3 = 3 then (
      k w
    ) else (
      if a3 = 0 then (
        wgG w (some a0) [24] 411 (fun v16 =>
        wld w v16 0 a1 (fun v17 =>
        wgG w (some a0) [24] 412 (fun v18 =>
        wld w v18 0 a1 (fun v19 =>
        wob w a0 [24] ∧
        wp_X4_beside w a0 v17 v19 (fun v20 w21 =>
        if v20 = (-1) then (
          k w21
        ) else (
          wgG w21 (some a0) [24] 411 (fun v22 =>
          wld w21 v22 0 a1 (fun v23 =>
          wpF w21 (some a0) [24] 417 v23 (fun w24 =>
          wgG w24 (some a0) [24] 411 (fun v25 =>
          wst w24 v25 0 a1 v20 (fun w26 =>
          wgG w26 (some a0) [24] 416 (fun v27 =>
          wob w26 a0 [24] ∧
          wp_X4_hasPond w26 a0 v20 (fun v28 w29 =>
          if v28 = 0 then (
            wst w29 v27 0 a1 (-1) (fun w30 =>
            k w30)
          ) else (
            wst w29 v27 0 a1 a4 (fun w31 =>
            k w31)
          ))))))))
        ))))))
      ) else (
        wob w a0 [24] ∧
        wp_X4_goesBy w a0 a1 a2 a3 (fun v3 w4 =>
        wgG w4 (some a0) [24] 412 (fun v5 =>
        wgG w4 (some a0) [24] 412 (fun v6 =>
        wld w4 v6 0 a1 (fun v7 =>
        if v3 = 1 then (
          wb_X4_step_115 k w4 a0 a1 a3 v3 v5 a1 v7 1
        ) else (
          wb_X4_step_115 k w4 a0 a1 a3 v3 v5 a1 v7 0
        )))))
      )
    )
  ) else (
    k w
  )))
def wp_X4_a (w : Wd) (a0 : Nat) (a1 : Int32) (k : Int32 → Wd → Prop) : Prop :=
  wgG w (some a0) [24] 401 (fun v1 =>
  wld w v1 0 ((5 * a1) + 1) (fun v2 =>
  k v2 w))
def wb_X4_says_92 (k : Int32 → Wd → Prop) (w : Wd) (a0 : Nat) (l2 : Int32) (l3 : Int32) (l4 : Int32) : Prop :=
    if l4 = (-1) then (
      wob w a0 [24] ∧
      wp_X4_refuse w a0 (-3) (fun v23 w24 =>
      k v23 w24)
    ) else (
      if l2 = 0 then (
        wob w a0 [24] ∧
        wp_X4_a w a0 l3 (fun v21 w22 =>
        k v21 w22)
      ) else (
        wob w a0 [24] ∧
        wp_X4_cell w a0 l3 (fun v13 w14 =>
        wob w14 a0 [24] ∧
        wp_X4_faces w14 a0 l3 (fun v15 w16 =>
        wob w16 a0 [24] ∧
        wp_X4_start w16 a0 0 v13 v15 (fun w17 =>
        wob w17 a0 [24] ∧
        wp_X4_step w17 a0 0 l3 1 0 (fun w18 =>
        wgG w18 (some a0) [24] 412 (fun v19 =>
        wld w18 v19 0 0 (fun v20 =>
        k v20 w18))))))
      )
    )
def wb_X4_says_68 (k : Int32 → Wd → Prop) (L68 : Wd → Nat → Int32 → Int32 → Int32 → Prop) (w : Wd) (a0 : Nat) (l2 : Int32) (l3 : Int32) (l4 : Int32) : Prop :=
    if l4 = (-1) then (
      wb_X4_says_92 k w a0 l2 l3 l4
    ) else (
      if l4 = l2 then (
        wb_X4_says_92 k w a0 l2 l3 l4
      ) else (
        wgG w (some a0) [24] 423 (fun v25 =>
        wld w v25 0 l4 (fun v26 =>
        L68 w a0 l2 l3 v26))
      )
    )
def wl_X4_says_68 (k : Int32 → Wd → Prop) (n : Nat) : Wd → Nat → Int32 → Int32 → Int32 → Prop := Nat.rec (motive := fun _ => Wd → Nat → Int32 → Int32 → Int32 → Prop) (fun _ _ _ _ _ => False) (fun _ L => wb_X4_says_68 k L) n
theorem wl_X4_says_68_s (k : Int32 → Wd → Prop) (n : Nat) : wl_X4_says_68 k (n + 1) = wb_X4_says_68 k (wl_X4_says_68 k n) := rfl
theorem wl_X4_says_68_0 (k : Int32 → Wd → Prop) : wl_X4_says_68 k 0 = fun _ _ _ _ _ => False := rfl
def wp_X4_says (w : Wd) (a0 : Nat) (a1 : Int32) (a2 : Int32) (k : Int32 → Wd → Prop) : Prop :=
  wp_X4_isShelf w a1 (fun v1 w2 =>
  if v1 = 0 then (
    wob w2 a0 [24] ∧
    wp_X4_refuse w2 a0 (-2) (fun v3 w4 =>
    k v3 w4)
  ) else (
    wp_X4_isIn w2 (a2.toInt64) 0 5 (fun v5 w6 =>
    if v5 = 0 then (
      wob w6 a0 [24] ∧
      wp_X4_refuse w6 a0 (-2) (fun v29 w30 =>
      k v29 w30)
    ) else (
      wgG w6 (some a0) [24] 419 (fun v7 =>
      wld w6 v7 0 a1 (fun v8 =>
      if v8 = (-1) then (
        wob w6 a0 [24] ∧
        wp_X4_refuse w6 a0 (-4) (fun v27 w28 =>
        k v27 w28)
      ) else (
        wgG w6 (some a0) [24] 419 (fun v9 =>
        wld w6 v9 0 a1 (fun v10 =>
        if (0 : Int32) ≤ (v10 - 10) then (
          wob w6 a0 [24] ∧
          wp_X4_kind w6 a0 (v10 - 10) (fun v11 w12 =>
          wl_X4_says_68 k FU w12 a0 a2 (v10 - 10) v11)
        ) else (
          wl_X4_says_68 k FU w6 a0 a2 (v10 - 10) (-1)
        )))
      )))
    ))
  ))
def wb_X4_load_29 (k : Int32 → Wd → Prop) (L29 : Wd → Nat → Int32 → Int32 → Int32 → Prop) (w : Wd) (a0 : Nat) (l1 : Int32) (l2 : Int32) (l3 : Int32) : Prop :=
    if l2 ≤ l3 then (
      k 1 w
    ) else (
      wgG w (some a0) [24] 421 (fun v5 =>
      wldL w v5 ((40 * l1) + l3) (fun v6 =>
      wp_X4_isIn w v6 0 3 (fun v7 w8 =>
      if v7 = 0 then (
        k (-5) w8
      ) else (
        wgG w8 (some a0) [24] 418 (fun v9 =>
        wgG w8 (some a0) [24] 421 (fun v10 =>
        wldL w8 v10 ((40 * l1) + l3) (fun v11 =>
        wst w8 v9 0 l3 (v11.toInt32) (fun w12 =>
        L29 w12 a0 l1 l2 (l3 + 1)))))
      ))))
    )
def wl_X4_load_29 (k : Int32 → Wd → Prop) (n : Nat) : Wd → Nat → Int32 → Int32 → Int32 → Prop := Nat.rec (motive := fun _ => Wd → Nat → Int32 → Int32 → Int32 → Prop) (fun _ _ _ _ _ => False) (fun _ L => wb_X4_load_29 k L) n
theorem wl_X4_load_29_s (k : Int32 → Wd → Prop) (n : Nat) : wl_X4_load_29 k (n + 1) = wb_X4_load_29 k (wl_X4_load_29 k n) := rfl
theorem wl_X4_load_29_0 (k : Int32 → Wd → Prop) : wl_X4_load_29 k 0 = fun _ _ _ _ _ => False := rfl
def wp_X4_load (w : Wd) (a0 : Nat) (a1 : Int32) (a2 : Int32) (k : Int32 → Wd → Prop) : Prop :=
  wob w a0 [24] ∧
  wp_X4_rowIn w a0 a1 (fun v1 w2 =>
  if (0 : Int32) ≤ v1 then (
    wgG w2 (some a0) [24] 420 (fun v3 =>
    wld w2 v3 0 a1 (fun v4 =>
    if a2 ≤ v4 then (
      wl_X4_load_29 k FU w2 a0 a1 a2 0
    ) else (
      k (-2) w2
    )))
  ) else (
    wob w2 a0 [24] ∧
    wp_X4_rowIn w2 a0 a1 (fun v13 w14 =>
    k v13 w14)
  ))
def wp_X4_loadIf (w : Wd) (a0 : Nat) (a1 : Int32) (a2 : Int32) (a3 : Int32) (k : Int32 → Wd → Prop) : Prop :=
  wp_X4_isShelf w a2 (fun v1 w2 =>
  if v1 = 0 then (
    k (-2) w2
  ) else (
    wp_X4_isIn w2 (a3.toInt64) 0 40 (fun v3 w4 =>
    if v3 = 0 then (
      k (-2) w4
    ) else (
      if a1 = 0 then (
        k (-2) w4
      ) else (
        wob w4 a0 [24] ∧
        wp_X4_load w4 a0 a2 a3 (fun v5 w6 =>
        k v5 w6)
      )
    ))
  ))
def wb_X4_go_17 (k : Wd → Prop) (L17 : Wd → Nat → Int32 → Int32 → Int32 → Prop) (w : Wd) (a0 : Nat) (l1 : Int32) (l2 : Int32) (l3 : Int32) : Prop :=
    if l2 ≤ l3 then (
      k w
    ) else (
      wgG w (some a0) [24] 418 (fun v6 =>
      wld w v6 0 l3 (fun v7 =>
      wob w a0 [24] ∧
      wp_X4_step w a0 0 l1 v7 l3 (fun w8 =>
      L17 w8 a0 l1 l2 (l3 + 1))))
    )
def wl_X4_go_17 (k : Wd → Prop) (n : Nat) : Wd → Nat → Int32 → Int32 → Int32 → Prop := Nat.rec (motive := fun _ => Wd → Nat → Int32 → Int32 → Int32 → Prop) (fun _ _ _ _ _ => False) (fun _ L => wb_X4_go_17 k L) n
theorem wl_X4_go_17_s (k : Wd → Prop) (n : Nat) : wl_X4_go_17 k (n + 1) = wb_X4_go_17 k (wl_X4_go_17 k n) := rfl
theorem wl_X4_go_17_0 (k : Wd → Prop) : wl_X4_go_17 k 0 = fun _ _ _ _ _ => False := rfl
def wp_X4_go (w : Wd) (a0 : Nat) (a1 : Int32) (a2 : Int32) (k : Wd → Prop) : Prop :=
  wob w a0 [24] ∧
  wp_X4_cell w a0 a1 (fun v1 w2 =>
  wob w2 a0 [24] ∧
  wp_X4_faces w2 a0 a1 (fun v3 w4 =>
  wob w4 a0 [24] ∧
  wp_X4_start w4 a0 0 v1 v3 (fun w5 =>
  wl_X4_go_17 k FU w5 a0 a1 a2 0)))
def wb_X4_comes_27 (k : Int32 → Wd → Prop) (w : Wd) (a0 : Nat) (l1 : Int32) (l2 : Int32) (l3 : Int32) (l4 : Int32) (s0 : Option Nat) (s1 : Int32) : Prop :=
    wnn s0 (fun b5 =>
    wob w b5 [24] ∧
    wp_X4_loadIf w b5 s1 l1 l2 (fun v3 w4 =>
    if (0 : Int32) ≤ v3 then (
      wob w4 a0 [24] ∧
      wp_X4_go w4 a0 l3 l2 (fun w6 =>
      if l4 = 0 then (
        wgG w6 (some a0) [24] 411 (fun v11 =>
        wld w6 v11 0 0 (fun v12 =>
        k v12 w6))
      ) else (
        if l4 = 1 then (
          wgG w6 (some a0) [24] 412 (fun v9 =>
          wld w6 v9 0 0 (fun v10 =>
          k v10 w6))
        ) else (
          wgG w6 (some a0) [24] 416 (fun v7 =>
          wld w6 v7 0 0 (fun v8 =>
          k v8 w6))
        )
      ))
    ) else (
      wob w4 a0 [24] ∧
      wp_X4_refuse w4 a0 v3 (fun v13 w14 =>
      k v13 w14)
    )))
def wb_X4_comes_26 (k : Int32 → Wd → Prop) (w : Wd) (a0 : Nat) (l1 : Int32) (l2 : Int32) (l3 : Int32) (l4 : Int32) (s0 : Option Nat) : Prop :=
    wb_X4_comes_27 k w a0 l1 l2 l3 l4 s0 0
def wp_X4_comes (w : Wd) (a0 : Nat) (a1 : Int32) (a2 : Int32) (a3 : Int32) (a4 : Int32) (k : Int32 → Wd → Prop) : Prop :=
  wob w a0 [24] ∧
  wp_X4_isPerson w a0 a3 (fun v1 w2 =>
  if v1 = 0 then (
    wb_X4_comes_26 k w2 a0 a1 a2 a3 a4 (some a0)
  ) else (
    wp_X4_isIn w2 (a4.toInt64) 0 2 (fun v15 w16 =>
    if v15 = 0 then (
      wb_X4_comes_26 k w16 a0 a1 a2 a3 a4 (some a0)
    ) else (
      wb_X4_comes_27 k w16 a0 a1 a2 a3 a4 (some a0) 1
    ))
  ))
def wb_X4_fell_24 (k : Int32 → Wd → Prop) (L24 : Wd → Nat → Int32 → Int32 → Int32 → Prop) (w : Wd) (a0 : Nat) (l2 : Int32) (l4 : Int32) (l5 : Int32) : Prop :=
    wob w a0 [24] ∧
    wp_X4_many w a0 (fun v3 w4 =>
    if v3 ≤ l5 then (
      k l4 w4
    ) else (
      wob w4 a0 [24] ∧
      wp_X4_go w4 a0 l5 l2 (fun w5 =>
      wgG w5 (some a0) [24] 416 (fun v6 =>
      wld w5 v6 0 0 (fun v7 =>
      if v7 = (-1) then (
        L24 w5 a0 l2 (l4 + 0) (l5 + 1)
      ) else (
        L24 w5 a0 l2 (l4 + 1) (l5 + 1)
      ))))
    ))
def wl_X4_fell_24 (k : Int32 → Wd → Prop) (n : Nat) : Wd → Nat → Int32 → Int32 → Int32 → Prop := Nat.rec (motive := fun _ => Wd → Nat → Int32 → Int32 → Int32 → Prop) (fun _ _ _ _ _ => False) (fun _ L => wb_X4_fell_24 k L) n
theorem wl_X4_fell_24_s (k : Int32 → Wd → Prop) (n : Nat) : wl_X4_fell_24 k (n + 1) = wb_X4_fell_24 k (wl_X4_fell_24 k n) := rfl
theorem wl_X4_fell_24_0 (k : Int32 → Wd → Prop) : wl_X4_fell_24 k 0 = fun _ _ _ _ _ => False := rfl
def wp_X4_fell (w : Wd) (a0 : Nat) (a1 : Int32) (a2 : Int32) (k : Int32 → Wd → Prop) : Prop :=
  wob w a0 [24] ∧
  wp_X4_loadIf w a0 1 a1 a2 (fun v1 w2 =>
  if (0 : Int32) ≤ v1 then (
    wl_X4_fell_24 k FU w2 a0 a2 0 0
  ) else (
    wob w2 a0 [24] ∧
    wp_X4_refuse w2 a0 v1 (fun v8 w9 =>
    k v8 w9)
  ))
def wb_X4_ponds_38 (k : Int32 → Wd → Prop) (L38 : Wd → Nat → Int32 → Int32 → Int32 → Int32 → Int32 → Prop) (w : Wd) (a0 : Nat) (l2 : Int32) (l3 : Int32) (l5 : Int32) (l6 : Int32) (l7 : Int32) : Prop :=
    if (67 : Int32) ≤ l7 then (
      wgG w (some a0) [24] 401 (fun v7 =>
      wst w v7 0 ((5 * l3) + 2) l5 (fun w8 =>
      k l6 w8))
    ) else (
      wob w a0 [24] ∧
      wp_X4_isCell w a0 l7 (fun v9 w10 =>
      if v9 = 0 then (
        L38 w10 a0 l2 l3 l5 l6 (l7 + 1)
      ) else (
        wob w10 a0 [24] ∧
        wp_X4_hasPond w10 a0 l7 (fun v11 w12 =>
        if v11 = 0 then (
          wgG w12 (some a0) [24] 401 (fun v13 =>
          wst w12 v13 0 ((5 * l3) + 2) l7 (fun w14 =>
          wob w14 a0 [24] ∧
          wp_X4_go w14 a0 l3 l2 (fun w15 =>
          wgG w15 (some a0) [24] 416 (fun v16 =>
          wld w15 v16 0 0 (fun v17 =>
          if v17 = (-1) then (
            L38 w15 a0 l2 l3 l5 (l6 + 0) (l7 + 1)
          ) else (
            L38 w15 a0 l2 l3 l5 (l6 + 1) (l7 + 1)
          ))))))
        ) else (
          L38 w12 a0 l2 l3 l5 l6 (l7 + 1)
        ))
      ))
    )
def wl_X4_ponds_38 (k : Int32 → Wd → Prop) (n : Nat) : Wd → Nat → Int32 → Int32 → Int32 → Int32 → Int32 → Prop := Nat.rec (motive := fun _ => Wd → Nat → Int32 → Int32 → Int32 → Int32 → Int32 → Prop) (fun _ _ _ _ _ _ _ => False) (fun _ L => wb_X4_ponds_38 k L) n
theorem wl_X4_ponds_38_s (k : Int32 → Wd → Prop) (n : Nat) : wl_X4_ponds_38 k (n + 1) = wb_X4_ponds_38 k (wl_X4_ponds_38 k n) := rfl
theorem wl_X4_ponds_38_0 (k : Int32 → Wd → Prop) : wl_X4_ponds_38 k 0 = fun _ _ _ _ _ _ _ => False := rfl
def wp_X4_ponds (w : Wd) (a0 : Nat) (a1 : Int32) (a2 : Int32) (a3 : Int32) (k : Int32 → Wd → Prop) : Prop :=
  wob w a0 [24] ∧
  wp_X4_isPerson w a0 a3 (fun v1 w2 =>
  wob w2 a0 [24] ∧
  wp_X4_loadIf w2 a0 v1 a1 a2 (fun v3 w4 =>
  if (0 : Int32) ≤ v3 then (
    wob w4 a0 [24] ∧
    wp_X4_cell w4 a0 a3 (fun v5 w6 =>
    wl_X4_ponds_38 k FU w6 a0 a2 a3 v5 0 0)
  ) else (
    wob w4 a0 [24] ∧
    wp_X4_refuse w4 a0 v3 (fun v18 w19 =>
    k v18 w19)
  )))
def wb_X4_spell_7 (k : Wd → Prop) (L7 : Wd → Nat → Int32 → Int32 → Prop) (w : Wd) (a0 : Nat) (l3 : Int32) (l4 : Int32) : Prop :=
    if l4 < 0 then (
      k w
    ) else (
      wgG w (some a0) [24] 418 (fun v1 =>
      wst w v1 0 l4 (l3 - l3 / 3 * 3) (fun w2 =>
      L7 w2 a0 (l3 / 3) (l4 + (-1))))
    )
def wl_X4_spell_7 (k : Wd → Prop) (n : Nat) : Wd → Nat → Int32 → Int32 → Prop := Nat.rec (motive := fun _ => Wd → Nat → Int32 → Int32 → Prop) (fun _ _ _ _ => False) (fun _ L => wb_X4_spell_7 k L) n
theorem wl_X4_spell_7_s (k : Wd → Prop) (n : Nat) : wl_X4_spell_7 k (n + 1) = wb_X4_spell_7 k (wl_X4_spell_7 k n) := rfl
theorem wl_X4_spell_7_0 (k : Wd → Prop) : wl_X4_spell_7 k 0 = fun _ _ _ _ => False := rfl
def wp_X4_spell (w : Wd) (a0 : Nat) (a1 : Int32) (a2 : Int32) (k : Wd → Prop) : Prop :=
  wl_X4_spell_7 k FU w a0 a1 (a2 - 1)
def wp_X4_brings (w : Wd) (a0 : Nat) (a1 : Int32) (a2 : Int32) (a3 : Int32) (a4 : Int32) (k : Int32 → Wd → Prop) : Prop :=
  wgG w (some a0) [24] 401 (fun v1 =>
  wld w v1 0 91 (fun v2 =>
  wgG w (some a0) [24] 401 (fun v3 =>
  wst w v3 0 91 a4 (fun w4 =>
  wob w4 a0 [24] ∧
  wp_X4_go w4 a0 a1 a2 (fun w5 =>
  wgG w5 (some a0) [24] 401 (fun v6 =>
  wst w5 v6 0 91 v2 (fun w7 =>
  wgG w7 (some a0) [24] 411 (fun v8 =>
  wld w7 v8 0 0 (fun v9 =>
  if v9 = a3 then (
    wgG w7 (some a0) [24] 416 (fun v10 =>
    wld w7 v10 0 0 (fun v11 =>
    if v11 = (-1) then (
      k 1 w7
    ) else (
      k 0 w7
    )))
  ) else (
    k 0 w7
  ))))))))))
def wb_X4_safe_113 (k : Int32 → Wd → Prop) (w : Wd) (a0 : Nat) (l4 : Int32) (l6 : Int32) : Prop :=
    if l4 = (-1) then (
      k l6 w
    ) else (
      if l6 ≤ l4 then (
        wob w a0 [24] ∧
        wp_X4_refuse w a0 (-5) (fun v20 w21 =>
        k v20 w21)
      ) else (
        wgG w (some a0) [24] 418 (fun v22 =>
        wld w v22 0 l4 (fun v23 =>
        k v23 w))
      )
    )
def wb_X4_safe_55 (k : Int32 → Wd → Prop) (L45 : Wd → Nat → Int32 → Int32 → Int32 → Int32 → Int32 → Int32 → Prop) (L55 : Wd → Nat → Int32 → Int32 → Int32 → Int32 → Int32 → Int32 → Int32 → Prop) (w : Wd) (a0 : Nat) (l1 : Int32) (l2 : Int32) (l3 : Int32) (l4 : Int32) (l5 : Int32) (l6 : Int32) (l7 : Int32) : Prop :=
    if l5 ≤ l7 then (
      L45 w a0 l1 l2 l3 l4 (l5 * 3) (l6 + 1)
    ) else (
      wob w a0 [24] ∧
      wp_X4_spell w a0 l7 l6 (fun w15 =>
      wgG w15 (some a0) [24] 401 (fun v16 =>
      wld w15 v16 0 91 (fun v17 =>
      wob w15 a0 [24] ∧
      wp_X4_brings w15 a0 l1 l6 l2 v17 (fun v18 w19 =>
      if v18 = 0 then (
        L55 w19 a0 l1 l2 l3 l4 l5 l6 (l7 + 1)
      ) else (
        if l3 = 1 then (
          wb_X4_safe_113 k w19 a0 l4 l6
        ) else (
          wgG w19 (some a0) [24] 401 (fun v24 =>
          wld w19 v24 0 91 (fun v25 =>
          wob w19 a0 [24] ∧
          wp_X4_brings w19 a0 l1 l6 l2 (1 - v25) (fun v26 w27 =>
          if v26 = 0 then (
            L55 w27 a0 l1 l2 l3 l4 l5 l6 (l7 + 1)
          ) else (
            wb_X4_safe_113 k w27 a0 l4 l6
          ))))
        )
      )))))
    )
def wl_X4_safe_55 (k : Int32 → Wd → Prop) (L45 : Wd → Nat → Int32 → Int32 → Int32 → Int32 → Int32 → Int32 → Prop) (n : Nat) : Wd → Nat → Int32 → Int32 → Int32 → Int32 → Int32 → Int32 → Int32 → Prop := Nat.rec (motive := fun _ => Wd → Nat → Int32 → Int32 → Int32 → Int32 → Int32 → Int32 → Int32 → Prop) (fun _ _ _ _ _ _ _ _ _ => False) (fun _ L => wb_X4_safe_55 k L45 L) n
theorem wl_X4_safe_55_s (k : Int32 → Wd → Prop) (L45 : Wd → Nat → Int32 → Int32 → Int32 → Int32 → Int32 → Int32 → Prop) (n : Nat) : wl_X4_safe_55 k L45 (n + 1) = wb_X4_safe_55 k L45 (wl_X4_safe_55 k L45 n) := rfl
theorem wl_X4_safe_55_0 (k : Int32 → Wd → Prop) (L45 : Wd → Nat → Int32 → Int32 → Int32 → Int32 → Int32 → Int32 → Prop) : wl_X4_safe_55 k L45 0 = fun _ _ _ _ _ _ _ _ _ => False := rfl
def wb_X4_safe_45 (k : Int32 → Wd → Prop) (L45 : Wd → Nat → Int32 → Int32 → Int32 → Int32 → Int32 → Int32 → Prop) (w : Wd) (a0 : Nat) (l1 : Int32) (l2 : Int32) (l3 : Int32) (l4 : Int32) (l5 : Int32) (l6 : Int32) : Prop :=
    if (6 : Int32) < l6 then (
      if l4 = (-1) then (
        k (-1) w
      ) else (
        wob w a0 [24] ∧
        wp_X4_refuse w a0 (-5) (fun v13 w14 =>
        k v13 w14)
      )
    ) else (
      wl_X4_safe_55 k L45 FU w a0 l1 l2 l3 l4 l5 l6 0
    )
def wl_X4_safe_45 (k : Int32 → Wd → Prop) (n : Nat) : Wd → Nat → Int32 → Int32 → Int32 → Int32 → Int32 → Int32 → Prop := Nat.rec (motive := fun _ => Wd → Nat → Int32 → Int32 → Int32 → Int32 → Int32 → Int32 → Prop) (fun _ _ _ _ _ _ _ _ => False) (fun _ L => wb_X4_safe_45 k L) n
theorem wl_X4_safe_45_s (k : Int32 → Wd → Prop) (n : Nat) : wl_X4_safe_45 k (n + 1) = wb_X4_safe_45 k (wl_X4_safe_45 k n) := rfl
theorem wl_X4_safe_45_0 (k : Int32 → Wd → Prop) : wl_X4_safe_45 k 0 = fun _ _ _ _ _ _ _ _ => False := rfl
def wp_X4_safe (w : Wd) (a0 : Nat) (a1 : Int32) (a2 : Int32) (a3 : Int32) (a4 : Int32) (k : Int32 → Wd → Prop) : Prop :=
  wob w a0 [24] ∧
  wp_X4_isPerson w a0 a1 (fun v1 w2 =>
  if v1 = 0 then (
    wob w2 a0 [24] ∧
    wp_X4_refuse w2 a0 (-2) (fun v3 w4 =>
    k v3 w4)
  ) else (
    wob w2 a0 [24] ∧
    wp_X4_isCell w2 a0 a2 (fun v5 w6 =>
    if v5 = 0 then (
      wob w6 a0 [24] ∧
      wp_X4_refuse w6 a0 (-2) (fun v7 w8 =>
      k v7 w8)
    ) else (
      wp_X4_isIn w6 (a3.toInt64) 0 1 (fun v9 w10 =>
      if v9 = 0 then (
        wob w10 a0 [24] ∧
        wp_X4_refuse w10 a0 (-2) (fun v11 w12 =>
        k v11 w12)
      ) else (
        if ((-1) : Int32) ≤ a4 then (
          wl_X4_safe_45 k FU w10 a0 a1 a2 a3 a4 1 0
        ) else (
          wob w10 a0 [24] ∧
          wp_X4_refuse w10 a0 (-2) (fun v28 w29 =>
          k v28 w29)
        )
      ))
    ))
  ))
def wb_X4_kinds_96 (k : Int32 → Wd → Prop) (L83 : Wd → Nat → Int32 → Int32 → Int32 → Int32 → Int32 → Int32 → Int32 → Int32 → Prop) (w : Wd) (a0 : Nat) (l2 : Int32) (l3 : Int32) (l4 : Int32) (l5 : Int32) (l7 : Int32) (l8 : Int32) (l9 : Int32) (l10 : Int32) (s0 : Int32) (s1 : Int32) : Prop :=
    if s1 ≤ s0 then (
      wgG w (some a0) [24] 401 (fun v8 =>
      wst w v8 0 l7 l8 (fun w9 =>
      k l9 w9))
    ) else (
      wgG w (some a0) [24] 401 (fun v10 =>
      wst w v10 0 l7 l10 (fun w11 =>
      wob w11 a0 [24] ∧
      wp_X4_go w11 a0 l3 l2 (fun w12 =>
      wgG w12 (some a0) [24] 411 (fun v13 =>
      wld w12 v13 0 0 (fun v14 =>
      if v14 = l4 then (
        L83 w12 a0 l2 l3 l4 l5 l7 l8 (l9 ||| (1 <<< (l10 &&& 31))) (l10 + 1)
      ) else (
        L83 w12 a0 l2 l3 l4 l5 l7 l8 (l9 ||| 0) (l10 + 1)
      ))))))
    )
def wb_X4_kinds_83 (k : Int32 → Wd → Prop) (L83 : Wd → Nat → Int32 → Int32 → Int32 → Int32 → Int32 → Int32 → Int32 → Int32 → Prop) (w : Wd) (a0 : Nat) (l2 : Int32) (l3 : Int32) (l4 : Int32) (l5 : Int32) (l7 : Int32) (l8 : Int32) (l9 : Int32) (l10 : Int32) : Prop :=
    if l5 = 0 then (
      wb_X4_kinds_96 k L83 w a0 l2 l3 l4 l5 l7 l8 l9 l10 l10 6
    ) else (
      wb_X4_kinds_96 k L83 w a0 l2 l3 l4 l5 l7 l8 l9 l10 l10 2
    )
def wl_X4_kinds_83 (k : Int32 → Wd → Prop) (n : Nat) : Wd → Nat → Int32 → Int32 → Int32 → Int32 → Int32 → Int32 → Int32 → Int32 → Prop := Nat.rec (motive := fun _ => Wd → Nat → Int32 → Int32 → Int32 → Int32 → Int32 → Int32 → Int32 → Int32 → Prop) (fun _ _ _ _ _ _ _ _ _ _ => False) (fun _ L => wb_X4_kinds_83 k L) n
theorem wl_X4_kinds_83_s (k : Int32 → Wd → Prop) (n : Nat) : wl_X4_kinds_83 k (n + 1) = wb_X4_kinds_83 k (wl_X4_kinds_83 k n) := rfl
theorem wl_X4_kinds_83_0 (k : Int32 → Wd → Prop) : wl_X4_kinds_83 k 0 = fun _ _ _ _ _ _ _ _ _ _ => False := rfl
def wb_X4_kinds_66 (k : Int32 → Wd → Prop) (w : Wd) (a0 : Nat) (l2 : Int32) (l3 : Int32) (l4 : Int32) (l5 : Int32) (s0 : Int32) : Prop :=
    wgG w (some a0) [24] 401 (fun v6 =>
    wld w v6 0 s0 (fun v7 =>
    wl_X4_kinds_83 k FU w a0 l2 l3 l4 l5 s0 v7 0 0))
def wb_X4_kinds_34 (k : Int32 → Wd → Prop) (w : Wd) (a0 : Nat) (l1 : Int32) (l2 : Int32) (l3 : Int32) (l4 : Int32) (l5 : Int32) (s0 : Option Nat) (s1 : Int32) : Prop :=
    wnn s0 (fun b5 =>
    wob w b5 [24] ∧
    wp_X4_loadIf w b5 s1 l1 l2 (fun v3 w4 =>
    if (0 : Int32) ≤ v3 then (
      if l5 = 0 then (
        wb_X4_kinds_66 k w4 a0 l2 l3 l4 l5 (5 * l3)
      ) else (
        wb_X4_kinds_66 k w4 a0 l2 l3 l4 l5 91
      )
    ) else (
      wob w4 a0 [24] ∧
      wp_X4_refuse w4 a0 v3 (fun v15 w16 =>
      k v15 w16)
    )))
def wb_X4_kinds_33 (k : Int32 → Wd → Prop) (w : Wd) (a0 : Nat) (l1 : Int32) (l2 : Int32) (l3 : Int32) (l4 : Int32) (l5 : Int32) (s0 : Option Nat) : Prop :=
    wb_X4_kinds_34 k w a0 l1 l2 l3 l4 l5 s0 0
def wp_X4_kinds (w : Wd) (a0 : Nat) (a1 : Int32) (a2 : Int32) (a3 : Int32) (a4 : Int32) (a5 : Int32) (k : Int32 → Wd → Prop) : Prop :=
  wob w a0 [24] ∧
  wp_X4_isPerson w a0 a3 (fun v1 w2 =>
  if v1 = 0 then (
    wb_X4_kinds_33 k w2 a0 a1 a2 a3 a4 a5 (some a0)
  ) else (
    wob w2 a0 [24] ∧
    wp_X4_isCell w2 a0 a4 (fun v17 w18 =>
    if v17 = 0 then (
      wb_X4_kinds_33 k w18 a0 a1 a2 a3 a4 a5 (some a0)
    ) else (
      wp_X4_isIn w18 (a5.toInt64) 0 1 (fun v19 w20 =>
      if v19 = 0 then (
        wb_X4_kinds_33 k w20 a0 a1 a2 a3 a4 a5 (some a0)
      ) else (
        wb_X4_kinds_34 k w20 a0 a1 a2 a3 a4 a5 (some a0) 1
      ))
    ))
  ))
def wb_X4_who_31 (k : Int32 → Wd → Prop) (L31 : Wd → Nat → Int32 → Int32 → Int32 → Int32 → Prop) (w : Wd) (a0 : Nat) (l2 : Int32) (l3 : Int32) (l5 : Int32) (l6 : Int32) : Prop :=
    wob w a0 [24] ∧
    wp_X4_many w a0 (fun v5 w6 =>
    if v5 ≤ l6 then (
      k l5 w6
    ) else (
      wob w6 a0 [24] ∧
      wp_X4_go w6 a0 l6 l2 (fun w7 =>
      wgG w7 (some a0) [24] 411 (fun v8 =>
      wld w7 v8 0 0 (fun v9 =>
      if v9 = l3 then (
        L31 w7 a0 l2 l3 (l5 ||| (1 <<< (l6 &&& 31))) (l6 + 1)
      ) else (
        L31 w7 a0 l2 l3 (l5 ||| 0) (l6 + 1)
      ))))
    ))
def wl_X4_who_31 (k : Int32 → Wd → Prop) (n : Nat) : Wd → Nat → Int32 → Int32 → Int32 → Int32 → Prop := Nat.rec (motive := fun _ => Wd → Nat → Int32 → Int32 → Int32 → Int32 → Prop) (fun _ _ _ _ _ _ => False) (fun _ L => wb_X4_who_31 k L) n
theorem wl_X4_who_31_s (k : Int32 → Wd → Prop) (n : Nat) : wl_X4_who_31 k (n + 1) = wb_X4_who_31 k (wl_X4_who_31 k n) := rfl
theorem wl_X4_who_31_0 (k : Int32 → Wd → Prop) : wl_X4_who_31 k 0 = fun _ _ _ _ _ _ => False := rfl
def wp_X4_who (w : Wd) (a0 : Nat) (a1 : Int32) (a2 : Int32) (a3 : Int32) (k : Int32 → Wd → Prop) : Prop :=
  wob w a0 [24] ∧
  wp_X4_isCell w a0 a3 (fun v1 w2 =>
  wob w2 a0 [24] ∧
  wp_X4_loadIf w2 a0 v1 a1 a2 (fun v3 w4 =>
  if (0 : Int32) ≤ v3 then (
    wl_X4_who_31 k FU w4 a0 a2 a3 0 0
  ) else (
    wob w4 a0 [24] ∧
    wp_X4_refuse w4 a0 v3 (fun v10 w11 =>
    k v10 w11)
  )))
def wb_X4_comeOut_2 (k : Wd → Prop) (L2 : Wd → Nat → Int32 → Int32 → Prop) (w : Wd) (a0 : Nat) (l1 : Int32) (l2 : Int32) : Prop :=
    wob w a0 [24] ∧
    wp_X4_many w a0 (fun v1 w2 =>
    if v1 ≤ l2 then (
      k w2
    ) else (
      wob w2 a0 [24] ∧
      wp_X4_go w2 a0 l2 l1 (fun w3 =>
      wgG w3 (some a0) [24] 424 (fun v4 =>
      wgG w3 (some a0) [24] 411 (fun v5 =>
      wld w3 v5 0 0 (fun v6 =>
      wst w3 v4 0 l2 v6 (fun w7 =>
      L2 w7 a0 l1 (l2 + 1))))))
    ))
def wl_X4_comeOut_2 (k : Wd → Prop) (n : Nat) : Wd → Nat → Int32 → Int32 → Prop := Nat.rec (motive := fun _ => Wd → Nat → Int32 → Int32 → Prop) (fun _ _ _ _ => False) (fun _ L => wb_X4_comeOut_2 k L) n
theorem wl_X4_comeOut_2_s (k : Wd → Prop) (n : Nat) : wl_X4_comeOut_2 k (n + 1) = wb_X4_comeOut_2 k (wl_X4_comeOut_2 k n) := rfl
theorem wl_X4_comeOut_2_0 (k : Wd → Prop) : wl_X4_comeOut_2 k 0 = fun _ _ _ _ => False := rfl
def wp_X4_comeOut (w : Wd) (a0 : Nat) (a1 : Int32) (k : Wd → Prop) : Prop :=
  wl_X4_comeOut_2 k FU w a0 a1 0
def wb_X4_outIn_4 (k : Int32 → Wd → Prop) (L4 : Wd → Nat → Int32 → Int32 → Int32 → Prop) (w : Wd) (a0 : Nat) (l1 : Int32) (l2 : Int32) (l3 : Int32) : Prop :=
    wob w a0 [24] ∧
    wp_X4_many w a0 (fun v1 w2 =>
    if v1 ≤ l3 then (
      k l2 w2
    ) else (
      wgG w2 (some a0) [24] 424 (fun v3 =>
      wld w2 v3 0 l3 (fun v4 =>
      if v4 = l1 then (
        L4 w2 a0 l1 (l2 + 1) (l3 + 1)
      ) else (
        L4 w2 a0 l1 (l2 + 0) (l3 + 1)
      )))
    ))
def wl_X4_outIn_4 (k : Int32 → Wd → Prop) (n : Nat) : Wd → Nat → Int32 → Int32 → Int32 → Prop := Nat.rec (motive := fun _ => Wd → Nat → Int32 → Int32 → Int32 → Prop) (fun _ _ _ _ _ => False) (fun _ L => wb_X4_outIn_4 k L) n
theorem wl_X4_outIn_4_s (k : Int32 → Wd → Prop) (n : Nat) : wl_X4_outIn_4 k (n + 1) = wb_X4_outIn_4 k (wl_X4_outIn_4 k n) := rfl
theorem wl_X4_outIn_4_0 (k : Int32 → Wd → Prop) : wl_X4_outIn_4 k 0 = fun _ _ _ _ _ => False := rfl
def wp_X4_outIn (w : Wd) (a0 : Nat) (a1 : Int32) (k : Int32 → Wd → Prop) : Prop :=
  wl_X4_outIn_4 k FU w a0 a1 0 0
def wb_X4_crowd_27 (k : Int32 → Wd → Prop) (w : Wd) (a0 : Nat) (l4 : Int32) : Prop :=
    if (0 : Int32) ≤ l4 then (
      wob w a0 [24] ∧
      wp_X4_refuse w a0 (-5) (fun v5 w6 =>
      k v5 w6)
    ) else (
      wob w a0 [24] ∧
      wp_X4_refuse w a0 l4 (fun v7 w8 =>
      k v7 w8)
    )
def wb_X4_crowd_55 (k : Int32 → Wd → Prop) (L55 : Wd → Nat → Int32 → Int32 → Int32 → Prop) (w : Wd) (a0 : Nat) (l3 : Int32) (l5 : Int32) (l6 : Int32) : Prop :=
    if (67 : Int32) ≤ l6 then (
      if l3 = 0 then (
        k l5 w
      ) else (
        wob w a0 [24] ∧
        wp_X4_outIn w a0 l5 (fun v12 w13 =>
        k v12 w13)
      )
    ) else (
      wob w a0 [24] ∧
      wp_X4_outIn w a0 l6 (fun v14 w15 =>
      wob w15 a0 [24] ∧
      wp_X4_outIn w15 a0 l5 (fun v16 w17 =>
      if v14 ≤ v16 then (
        L55 w17 a0 l3 l5 (l6 + 1)
      ) else (
        L55 w17 a0 l3 l6 (l6 + 1)
      )))
    )
def wl_X4_crowd_55 (k : Int32 → Wd → Prop) (n : Nat) : Wd → Nat → Int32 → Int32 → Int32 → Prop := Nat.rec (motive := fun _ => Wd → Nat → Int32 → Int32 → Int32 → Prop) (fun _ _ _ _ _ => False) (fun _ L => wb_X4_crowd_55 k L) n
theorem wl_X4_crowd_55_s (k : Int32 → Wd → Prop) (n : Nat) : wl_X4_crowd_55 k (n + 1) = wb_X4_crowd_55 k (wl_X4_crowd_55 k n) := rfl
theorem wl_X4_crowd_55_0 (k : Int32 → Wd → Prop) : wl_X4_crowd_55 k 0 = fun _ _ _ _ _ => False := rfl
def wp_X4_crowd (w : Wd) (a0 : Nat) (a1 : Int32) (a2 : Int32) (a3 : Int32) (k : Int32 → Wd → Prop) : Prop :=
  wp_X4_isIn w (a3.toInt64) 0 1 (fun v1 w2 =>
  wob w2 a0 [24] ∧
  wp_X4_loadIf w2 a0 v1 a1 a2 (fun v3 w4 =>
  if v3 < 0 then (
    wb_X4_crowd_27 k w4 a0 v3
  ) else (
    wob w4 a0 [24] ∧
    wp_X4_many w4 a0 (fun v9 w10 =>
    if v9 = 0 then (
      wb_X4_crowd_27 k w10 a0 v3
    ) else (
      wob w10 a0 [24] ∧
      wp_X4_comeOut w10 a0 a2 (fun w11 =>
      wl_X4_crowd_55 k FU w11 a0 a3 0 1)
    ))
  )))
def wb_X4_lonely_29 (k : Int32 → Wd → Prop) (L29 : Wd → Nat → Int32 → Int32 → Prop) (w : Wd) (a0 : Nat) (l4 : Int32) (l5 : Int32) : Prop :=
    wob w a0 [24] ∧
    wp_X4_many w a0 (fun v4 w5 =>
    if v4 ≤ l5 then (
      k l4 w5
    ) else (
      wgG w5 (some a0) [24] 424 (fun v6 =>
      wld w5 v6 0 l5 (fun v7 =>
      wob w5 a0 [24] ∧
      wp_X4_outIn w5 a0 v7 (fun v8 w9 =>
      if v8 = 1 then (
        L29 w9 a0 (l4 ||| (1 <<< (l5 &&& 31))) (l5 + 1)
      ) else (
        L29 w9 a0 (l4 ||| 0) (l5 + 1)
      ))))
    ))
def wl_X4_lonely_29 (k : Int32 → Wd → Prop) (n : Nat) : Wd → Nat → Int32 → Int32 → Prop := Nat.rec (motive := fun _ => Wd → Nat → Int32 → Int32 → Prop) (fun _ _ _ _ => False) (fun _ L => wb_X4_lonely_29 k L) n
theorem wl_X4_lonely_29_s (k : Int32 → Wd → Prop) (n : Nat) : wl_X4_lonely_29 k (n + 1) = wb_X4_lonely_29 k (wl_X4_lonely_29 k n) := rfl
theorem wl_X4_lonely_29_0 (k : Int32 → Wd → Prop) : wl_X4_lonely_29 k 0 = fun _ _ _ _ => False := rfl
def wp_X4_lonely (w : Wd) (a0 : Nat) (a1 : Int32) (a2 : Int32) (k : Int32 → Wd → Prop) : Prop :=
  wob w a0 [24] ∧
  wp_X4_loadIf w a0 1 a1 a2 (fun v1 w2 =>
  if (0 : Int32) ≤ v1 then (
    wob w2 a0 [24] ∧
    wp_X4_comeOut w2 a0 a2 (fun w3 =>
    wl_X4_lonely_29 k FU w3 a0 0 0)
  ) else (
    wob w2 a0 [24] ∧
    wp_X4_refuse w2 a0 v1 (fun v10 w11 =>
    k v10 w11)
  ))
def wb_X4_firstFall_67 (k : Int32 → Wd → Prop) (L24 : Wd → Nat → Int32 → Int32 → Int32 → Prop) (w : Wd) (a0 : Nat) (l2 : Int32) (l5 : Int32) : Prop :=
    wgG w (some a0) [24] 416 (fun v8 =>
    wld w v8 0 0 (fun v9 =>
    L24 w a0 l2 v9 (l5 + 1)))
def wb_X4_firstFall_24 (k : Int32 → Wd → Prop) (L24 : Wd → Nat → Int32 → Int32 → Int32 → Prop) (w : Wd) (a0 : Nat) (l2 : Int32) (l4 : Int32) (l5 : Int32) : Prop :=
    wob w a0 [24] ∧
    wp_X4_many w a0 (fun v3 w4 =>
    if v3 ≤ l5 then (
      k l4 w4
    ) else (
      wob w4 a0 [24] ∧
      wp_X4_go w4 a0 l5 l2 (fun w5 =>
      wgG w5 (some a0) [24] 416 (fun v6 =>
      wld w5 v6 0 0 (fun v7 =>
      if v7 = (-1) then (
        L24 w5 a0 l2 l4 (l5 + 1)
      ) else (
        if l4 = (-1) then (
          wb_X4_firstFall_67 k L24 w5 a0 l2 l5
        ) else (
          wgG w5 (some a0) [24] 416 (fun v10 =>
          wld w5 v10 0 0 (fun v11 =>
          if l4 ≤ v11 then (
            L24 w5 a0 l2 l4 (l5 + 1)
          ) else (
            wb_X4_firstFall_67 k L24 w5 a0 l2 l5
          )))
        )
      ))))
    ))
def wl_X4_firstFall_24 (k : Int32 → Wd → Prop) (n : Nat) : Wd → Nat → Int32 → Int32 → Int32 → Prop := Nat.rec (motive := fun _ => Wd → Nat → Int32 → Int32 → Int32 → Prop) (fun _ _ _ _ _ => False) (fun _ L => wb_X4_firstFall_24 k L) n
theorem wl_X4_firstFall_24_s (k : Int32 → Wd → Prop) (n : Nat) : wl_X4_firstFall_24 k (n + 1) = wb_X4_firstFall_24 k (wl_X4_firstFall_24 k n) := rfl
theorem wl_X4_firstFall_24_0 (k : Int32 → Wd → Prop) : wl_X4_firstFall_24 k 0 = fun _ _ _ _ _ => False := rfl
def wp_X4_firstFall (w : Wd) (a0 : Nat) (a1 : Int32) (a2 : Int32) (k : Int32 → Wd → Prop) : Prop :=
  wob w a0 [24] ∧
  wp_X4_loadIf w a0 1 a1 a2 (fun v1 w2 =>
  if (0 : Int32) ≤ v1 then (
    wl_X4_firstFall_24 k FU w2 a0 a2 (-1) 0
  ) else (
    wob w2 a0 [24] ∧
    wp_X4_refuse w2 a0 v1 (fun v12 w13 =>
    k v12 w13)
  ))
def wp_X4_alike (w : Wd) (a0 : Nat) (a1 : Int32) (a2 : Int32) (a3 : Int32) (k : Int32 → Wd → Prop) : Prop :=
  wob w a0 [24] ∧
  wp_X4_isPerson w a0 a3 (fun v1 w2 =>
  wob w2 a0 [24] ∧
  wp_X4_loadIf w2 a0 v1 a1 a2 (fun v3 w4 =>
  if (0 : Int32) ≤ v3 then (
    wgG w4 (some a0) [24] 401 (fun v5 =>
    wld w4 v5 0 91 (fun v6 =>
    wgG w4 (some a0) [24] 401 (fun v7 =>
    wst w4 v7 0 91 0 (fun w8 =>
    wob w8 a0 [24] ∧
    wp_X4_go w8 a0 a3 a2 (fun w9 =>
    wgG w9 (some a0) [24] 411 (fun v10 =>
    wld w9 v10 0 0 (fun v11 =>
    wgG w9 (some a0) [24] 412 (fun v12 =>
    wld w9 v12 0 0 (fun v13 =>
    wgG w9 (some a0) [24] 401 (fun v14 =>
    wst w9 v14 0 91 1 (fun w15 =>
    wob w15 a0 [24] ∧
    wp_X4_go w15 a0 a3 a2 (fun w16 =>
    wgG w16 (some a0) [24] 401 (fun v17 =>
    wst w16 v17 0 91 v6 (fun w18 =>
    wgG w18 (some a0) [24] 411 (fun v19 =>
    wld w18 v19 0 0 (fun v20 =>
    if v20 = v11 then (
      wgG w18 (some a0) [24] 412 (fun v21 =>
      wld w18 v21 0 0 (fun v22 =>
      if v22 = v13 then (
        k 1 w18
      ) else (
        k 0 w18
      )))
    ) else (
      k 0 w18
    )))))))))))))))))
  ) else (
    wob w4 a0 [24] ∧
    wp_X4_refuse w4 a0 v3 (fun v23 w24 =>
    k v23 w24)
  )))
def wb_X4_differ_81 (k : Int32 → Wd → Prop) (L81 : Wd → Nat → Int32 → Int32 → Int32 → Int32 → Prop) (w : Wd) (a0 : Nat) (l2 : Int32) (l3 : Int32) (l4 : Int32) (l6 : Int32) : Prop :=
    if l2 ≤ l6 then (
      k (-1) w
    ) else (
      wgG w (some a0) [24] 418 (fun v16 =>
      wld w v16 0 l6 (fun v17 =>
      wob w a0 [24] ∧
      wp_X4_step w a0 0 l3 v17 l6 (fun w18 =>
      wgG w18 (some a0) [24] 418 (fun v19 =>
      wld w18 v19 0 l6 (fun v20 =>
      wob w18 a0 [24] ∧
      wp_X4_step w18 a0 1 l4 v20 l6 (fun w21 =>
      wgG w21 (some a0) [24] 411 (fun v22 =>
      wld w21 v22 0 0 (fun v23 =>
      wgG w21 (some a0) [24] 411 (fun v24 =>
      wld w21 v24 0 1 (fun v25 =>
      if v23 = v25 then (
        wgG w21 (some a0) [24] 412 (fun v26 =>
        wld w21 v26 0 0 (fun v27 =>
        wgG w21 (some a0) [24] 412 (fun v28 =>
        wld w21 v28 0 1 (fun v29 =>
        if v27 = v29 then (
          L81 w21 a0 l2 l3 l4 (l6 + 1)
        ) else (
          k (l6 + 1) w21
        )))))
      ) else (
        k (l6 + 1) w21
      )))))))))))
    )
def wl_X4_differ_81 (k : Int32 → Wd → Prop) (n : Nat) : Wd → Nat → Int32 → Int32 → Int32 → Int32 → Prop := Nat.rec (motive := fun _ => Wd → Nat → Int32 → Int32 → Int32 → Int32 → Prop) (fun _ _ _ _ _ _ => False) (fun _ L => wb_X4_differ_81 k L) n
theorem wl_X4_differ_81_s (k : Int32 → Wd → Prop) (n : Nat) : wl_X4_differ_81 k (n + 1) = wb_X4_differ_81 k (wl_X4_differ_81 k n) := rfl
theorem wl_X4_differ_81_0 (k : Int32 → Wd → Prop) : wl_X4_differ_81 k 0 = fun _ _ _ _ _ _ => False := rfl
def wb_X4_differ_29 (k : Int32 → Wd → Prop) (w : Wd) (a0 : Nat) (l1 : Int32) (l2 : Int32) (l3 : Int32) (l4 : Int32) (s0 : Option Nat) (s1 : Int32) : Prop :=
    wnn s0 (fun b5 =>
    wob w b5 [24] ∧
    wp_X4_loadIf w b5 s1 l1 l2 (fun v3 w4 =>
    if (0 : Int32) ≤ v3 then (
      wob w4 a0 [24] ∧
      wp_X4_cell w4 a0 l3 (fun v6 w7 =>
      wob w7 a0 [24] ∧
      wp_X4_faces w7 a0 l3 (fun v8 w9 =>
      wob w9 a0 [24] ∧
      wp_X4_start w9 a0 0 v6 v8 (fun w10 =>
      wob w10 a0 [24] ∧
      wp_X4_cell w10 a0 l3 (fun v11 w12 =>
      wob w12 a0 [24] ∧
      wp_X4_faces w12 a0 l3 (fun v13 w14 =>
      wob w14 a0 [24] ∧
      wp_X4_start w14 a0 1 v11 v13 (fun w15 =>
      wl_X4_differ_81 k FU w15 a0 l2 l3 l4 0))))))
    ) else (
      wob w4 a0 [24] ∧
      wp_X4_refuse w4 a0 v3 (fun v30 w31 =>
      k v30 w31)
    )))
def wb_X4_differ_28 (k : Int32 → Wd → Prop) (w : Wd) (a0 : Nat) (l1 : Int32) (l2 : Int32) (l3 : Int32) (l4 : Int32) (s0 : Option Nat) : Prop :=
    wb_X4_differ_29 k w a0 l1 l2 l3 l4 s0 0
def wp_X4_differ (w : Wd) (a0 : Nat) (a1 : Int32) (a2 : Int32) (a3 : Int32) (a4 : Int32) (k : Int32 → Wd → Prop) : Prop :=
  wob w a0 [24] ∧
  wp_X4_isPerson w a0 a3 (fun v1 w2 =>
  if v1 = 0 then (
    wb_X4_differ_28 k w2 a0 a1 a2 a3 a4 (some a0)
  ) else (
    wob w2 a0 [24] ∧
    wp_X4_isPerson w2 a0 a4 (fun v32 w33 =>
    if v32 = 0 then (
      wb_X4_differ_28 k w33 a0 a1 a2 a3 a4 (some a0)
    ) else (
      if a3 = a4 then (
        wb_X4_differ_28 k w33 a0 a1 a2 a3 a4 (some a0)
      ) else (
        wb_X4_differ_29 k w33 a0 a1 a2 a3 a4 (some a0) 1
      )
    ))
  ))
def wb_X4_again_64 (k : Int32 → Wd → Prop) (L64 : Wd → Nat → Int32 → Int32 → Int32 → Int32 → Prop) (w : Wd) (a0 : Nat) (l2 : Int32) (l3 : Int32) (l4 : Int32) (l6 : Int32) : Prop :=
    if (l2 * l4) ≤ l6 then (
      wgG w (some a0) [24] 411 (fun v11 =>
      wld w v11 0 0 (fun v12 =>
      k v12 w))
    ) else (
      wgG w (some a0) [24] 418 (fun v13 =>
      (¬ l2 = 0) ∧ (
      wld w v13 0 (l6 - l6 / l2 * l2) (fun v14 =>
      wob w a0 [24] ∧
      wp_X4_step w a0 0 l3 v14 l6 (fun w15 =>
      L64 w15 a0 l2 l3 l4 (l6 + 1)))))
    )
def wl_X4_again_64 (k : Int32 → Wd → Prop) (n : Nat) : Wd → Nat → Int32 → Int32 → Int32 → Int32 → Prop := Nat.rec (motive := fun _ => Wd → Nat → Int32 → Int32 → Int32 → Int32 → Prop) (fun _ _ _ _ _ _ => False) (fun _ L => wb_X4_again_64 k L) n
theorem wl_X4_again_64_s (k : Int32 → Wd → Prop) (n : Nat) : wl_X4_again_64 k (n + 1) = wb_X4_again_64 k (wl_X4_again_64 k n) := rfl
theorem wl_X4_again_64_0 (k : Int32 → Wd → Prop) : wl_X4_again_64 k 0 = fun _ _ _ _ _ _ => False := rfl
def wb_X4_again_27 (k : Int32 → Wd → Prop) (w : Wd) (a0 : Nat) (l1 : Int32) (l2 : Int32) (l3 : Int32) (l4 : Int32) (s0 : Option Nat) (s1 : Int32) : Prop :=
    wnn s0 (fun b5 =>
    wob w b5 [24] ∧
    wp_X4_loadIf w b5 s1 l1 l2 (fun v3 w4 =>
    if (0 : Int32) ≤ v3 then (
      wob w4 a0 [24] ∧
      wp_X4_cell w4 a0 l3 (fun v6 w7 =>
      wob w7 a0 [24] ∧
      wp_X4_faces w7 a0 l3 (fun v8 w9 =>
      wob w9 a0 [24] ∧
      wp_X4_start w9 a0 0 v6 v8 (fun w10 =>
      wl_X4_again_64 k FU w10 a0 l2 l3 l4 0)))
    ) else (
      wob w4 a0 [24] ∧
      wp_X4_refuse w4 a0 v3 (fun v16 w17 =>
      k v16 w17)
    )))
def wb_X4_again_26 (k : Int32 → Wd → Prop) (w : Wd) (a0 : Nat) (l1 : Int32) (l2 : Int32) (l3 : Int32) (l4 : Int32) (s0 : Option Nat) : Prop :=
    wb_X4_again_27 k w a0 l1 l2 l3 l4 s0 0
def wp_X4_again (w : Wd) (a0 : Nat) (a1 : Int32) (a2 : Int32) (a3 : Int32) (a4 : Int32) (k : Int32 → Wd → Prop) : Prop :=
  wob w a0 [24] ∧
  wp_X4_isPerson w a0 a3 (fun v1 w2 =>
  if v1 = 0 then (
    wb_X4_again_26 k w2 a0 a1 a2 a3 a4 (some a0)
  ) else (
    wp_X4_isIn w2 (a4.toInt64) 0 20 (fun v18 w19 =>
    if v18 = 0 then (
      wb_X4_again_26 k w19 a0 a1 a2 a3 a4 (some a0)
    ) else (
      wb_X4_again_27 k w19 a0 a1 a2 a3 a4 (some a0) 1
    ))
  ))
def wb_X4_ring_53 (k : Int32 → Wd → Prop) (L43 : Wd → Nat → Int32 → Int32 → Int32 → Prop) (L53 : Wd → Nat → Int32 → Int32 → Int32 → Int32 → Prop) (w : Wd) (a0 : Nat) (l2 : Int32) (l3 : Int32) (l5 : Int32) (l6 : Int32) : Prop :=
    if l2 ≤ l6 then (
      wgG w (some a0) [24] 411 (fun v10 =>
      wld w v10 0 0 (fun v11 =>
      wob w a0 [24] ∧
      wp_X4_cell w a0 l3 (fun v12 w13 =>
      if v11 = v12 then (
        wgG w13 (some a0) [24] 412 (fun v14 =>
        wld w13 v14 0 0 (fun v15 =>
        wob w13 a0 [24] ∧
        wp_X4_faces w13 a0 l3 (fun v16 w17 =>
        if v15 = v16 then (
          k l5 w17
        ) else (
          L43 w17 a0 l2 l3 (l5 + 1)
        ))))
      ) else (
        L43 w13 a0 l2 l3 (l5 + 1)
      ))))
    ) else (
      wgG w (some a0) [24] 418 (fun v18 =>
      wld w v18 0 l6 (fun v19 =>
      wob w a0 [24] ∧
      wp_X4_step w a0 0 l3 v19 l6 (fun w20 =>
      L53 w20 a0 l2 l3 l5 (l6 + 1))))
    )
def wl_X4_ring_53 (k : Int32 → Wd → Prop) (L43 : Wd → Nat → Int32 → Int32 → Int32 → Prop) (n : Nat) : Wd → Nat → Int32 → Int32 → Int32 → Int32 → Prop := Nat.rec (motive := fun _ => Wd → Nat → Int32 → Int32 → Int32 → Int32 → Prop) (fun _ _ _ _ _ _ => False) (fun _ L => wb_X4_ring_53 k L43 L) n
theorem wl_X4_ring_53_s (k : Int32 → Wd → Prop) (L43 : Wd → Nat → Int32 → Int32 → Int32 → Prop) (n : Nat) : wl_X4_ring_53 k L43 (n + 1) = wb_X4_ring_53 k L43 (wl_X4_ring_53 k L43 n) := rfl
theorem wl_X4_ring_53_0 (k : Int32 → Wd → Prop) (L43 : Wd → Nat → Int32 → Int32 → Int32 → Prop) : wl_X4_ring_53 k L43 0 = fun _ _ _ _ _ _ => False := rfl
def wb_X4_ring_43 (k : Int32 → Wd → Prop) (L43 : Wd → Nat → Int32 → Int32 → Int32 → Prop) (w : Wd) (a0 : Nat) (l2 : Int32) (l3 : Int32) (l5 : Int32) : Prop :=
    if (20 : Int32) < l5 then (
      k (-1) w
    ) else (
      wl_X4_ring_53 k L43 FU w a0 l2 l3 l5 0
    )
def wl_X4_ring_43 (k : Int32 → Wd → Prop) (n : Nat) : Wd → Nat → Int32 → Int32 → Int32 → Prop := Nat.rec (motive := fun _ => Wd → Nat → Int32 → Int32 → Int32 → Prop) (fun _ _ _ _ _ => False) (fun _ L => wb_X4_ring_43 k L) n
theorem wl_X4_ring_43_s (k : Int32 → Wd → Prop) (n : Nat) : wl_X4_ring_43 k (n + 1) = wb_X4_ring_43 k (wl_X4_ring_43 k n) := rfl
theorem wl_X4_ring_43_0 (k : Int32 → Wd → Prop) : wl_X4_ring_43 k 0 = fun _ _ _ _ _ => False := rfl
def wp_X4_ring (w : Wd) (a0 : Nat) (a1 : Int32) (a2 : Int32) (a3 : Int32) (k : Int32 → Wd → Prop) : Prop :=
  wob w a0 [24] ∧
  wp_X4_isPerson w a0 a3 (fun v1 w2 =>
  wob w2 a0 [24] ∧
  wp_X4_loadIf w2 a0 v1 a1 a2 (fun v3 w4 =>
  if (0 : Int32) ≤ v3 then (
    wob w4 a0 [24] ∧
    wp_X4_cell w4 a0 a3 (fun v5 w6 =>
    wob w6 a0 [24] ∧
    wp_X4_faces w6 a0 a3 (fun v7 w8 =>
    wob w8 a0 [24] ∧
    wp_X4_start w8 a0 0 v5 v7 (fun w9 =>
    wl_X4_ring_43 k FU w9 a0 a2 a3 1)))
  ) else (
    wob w4 a0 [24] ∧
    wp_X4_refuse w4 a0 v3 (fun v21 w22 =>
    k v21 w22)
  )))
def wb_X4_idle_46 (k : Int32 → Wd → Prop) (L46 : Wd → Nat → Int32 → Int32 → Int32 → Int32 → Prop) (w : Wd) (a0 : Nat) (l2 : Int32) (l3 : Int32) (l5 : Int32) (l6 : Int32) : Prop :=
    if l2 ≤ l6 then (
      k l5 w
    ) else (
      wgG w (some a0) [24] 411 (fun v10 =>
      wld w v10 0 0 (fun v11 =>
      wgG w (some a0) [24] 418 (fun v12 =>
      wld w v12 0 l6 (fun v13 =>
      wob w a0 [24] ∧
      wp_X4_step w a0 0 l3 v13 l6 (fun w14 =>
      wgG w14 (some a0) [24] 411 (fun v15 =>
      wld w14 v15 0 0 (fun v16 =>
      if v16 = v11 then (
        L46 w14 a0 l2 l3 (l5 + 1) (l6 + 1)
      ) else (
        L46 w14 a0 l2 l3 (l5 + 0) (l6 + 1)
      ))))))))
    )
def wl_X4_idle_46 (k : Int32 → Wd → Prop) (n : Nat) : Wd → Nat → Int32 → Int32 → Int32 → Int32 → Prop := Nat.rec (motive := fun _ => Wd → Nat → Int32 → Int32 → Int32 → Int32 → Prop) (fun _ _ _ _ _ _ => False) (fun _ L => wb_X4_idle_46 k L) n
theorem wl_X4_idle_46_s (k : Int32 → Wd → Prop) (n : Nat) : wl_X4_idle_46 k (n + 1) = wb_X4_idle_46 k (wl_X4_idle_46 k n) := rfl
theorem wl_X4_idle_46_0 (k : Int32 → Wd → Prop) : wl_X4_idle_46 k 0 = fun _ _ _ _ _ _ => False := rfl
def wp_X4_idle (w : Wd) (a0 : Nat) (a1 : Int32) (a2 : Int32) (a3 : Int32) (k : Int32 → Wd → Prop) : Prop :=
  wob w a0 [24] ∧
  wp_X4_isPerson w a0 a3 (fun v1 w2 =>
  wob w2 a0 [24] ∧
  wp_X4_loadIf w2 a0 v1 a1 a2 (fun v3 w4 =>
  if (0 : Int32) ≤ v3 then (
    wob w4 a0 [24] ∧
    wp_X4_cell w4 a0 a3 (fun v5 w6 =>
    wob w6 a0 [24] ∧
    wp_X4_faces w6 a0 a3 (fun v7 w8 =>
    wob w8 a0 [24] ∧
    wp_X4_start w8 a0 0 v5 v7 (fun w9 =>
    wl_X4_idle_46 k FU w9 a0 a2 a3 0 0)))
  ) else (
    wob w4 a0 [24] ∧
    wp_X4_refuse w4 a0 v3 (fun v17 w18 =>
    k v17 w18)
  )))
def wb_X4_lefts_74 (k : Int32 → Wd → Prop) (w : Wd) (l3 : Int32) : Prop :=
    if l3 ≤ 20 then (
      k l3 w
    ) else (
      k (-1) w
    )
def wb_X4_lefts_44 (k : Int32 → Wd → Prop) (L44 : Wd → Nat → Int32 → Int32 → Int32 → Prop) (w : Wd) (a0 : Nat) (l1 : Int32) (l2 : Int32) (l3 : Int32) : Prop :=
    wgG w (some a0) [24] 412 (fun v12 =>
    wld w v12 0 0 (fun v13 =>
    if v13 = l2 then (
      wb_X4_lefts_74 k w l3
    ) else (
      if (20 : Int32) < l3 then (
        wb_X4_lefts_74 k w l3
      ) else (
        wob w a0 [24] ∧
        wp_X4_step w a0 0 l1 1 l3 (fun w14 =>
        L44 w14 a0 l1 l2 (l3 + 1))
      )
    )))
def wl_X4_lefts_44 (k : Int32 → Wd → Prop) (n : Nat) : Wd → Nat → Int32 → Int32 → Int32 → Prop := Nat.rec (motive := fun _ => Wd → Nat → Int32 → Int32 → Int32 → Prop) (fun _ _ _ _ _ => False) (fun _ L => wb_X4_lefts_44 k L) n
theorem wl_X4_lefts_44_s (k : Int32 → Wd → Prop) (n : Nat) : wl_X4_lefts_44 k (n + 1) = wb_X4_lefts_44 k (wl_X4_lefts_44 k n) := rfl
theorem wl_X4_lefts_44_0 (k : Int32 → Wd → Prop) : wl_X4_lefts_44 k 0 = fun _ _ _ _ _ => False := rfl
def wp_X4_lefts (w : Wd) (a0 : Nat) (a1 : Int32) (a2 : Int32) (k : Int32 → Wd → Prop) : Prop :=
  wob w a0 [24] ∧
  wp_X4_isPerson w a0 a1 (fun v1 w2 =>
  if v1 = 0 then (
    wob w2 a0 [24] ∧
    wp_X4_refuse w2 a0 (-2) (fun v3 w4 =>
    k v3 w4)
  ) else (
    wp_X4_isIn w2 (a2.toInt64) 0 3 (fun v5 w6 =>
    if v5 = 0 then (
      wob w6 a0 [24] ∧
      wp_X4_refuse w6 a0 (-2) (fun v15 w16 =>
      k v15 w16)
    ) else (
      wob w6 a0 [24] ∧
      wp_X4_cell w6 a0 a1 (fun v7 w8 =>
      wob w8 a0 [24] ∧
      wp_X4_faces w8 a0 a1 (fun v9 w10 =>
      wob w10 a0 [24] ∧
      wp_X4_start w10 a0 0 v7 v9 (fun w11 =>
      wl_X4_lefts_44 k FU w11 a0 a1 a2 0)))
    ))
  ))
def wb_X4_reach_121 (k : Int32 → Wd → Prop) (L121 : Wd → Int64 → Int32 → Int32 → Prop) (w : Wd) (l3 : Int64) (l6 : Int32) (l7 : Int32) : Prop :=
    if (49 : Int32) ≤ l7 then (
      k l6 w
    ) else (
      L121 w l3 (l6 + (((l3 >>> (l7.toInt64 &&& 63)) &&& 1).toInt32)) (l7 + 1)
    )
def wl_X4_reach_121 (k : Int32 → Wd → Prop) (n : Nat) : Wd → Int64 → Int32 → Int32 → Prop := Nat.rec (motive := fun _ => Wd → Int64 → Int32 → Int32 → Prop) (fun _ _ _ _ => False) (fun _ L => wb_X4_reach_121 k L) n
theorem wl_X4_reach_121_s (k : Int32 → Wd → Prop) (n : Nat) : wl_X4_reach_121 k (n + 1) = wb_X4_reach_121 k (wl_X4_reach_121 k n) := rfl
theorem wl_X4_reach_121_0 (k : Int32 → Wd → Prop) : wl_X4_reach_121 k 0 = fun _ _ _ _ => False := rfl
def wb_X4_reach_44 (k : Int32 → Wd → Prop) (L35 : Wd → Nat → Int32 → Int32 → Int64 → Int32 → Int32 → Prop) (L44 : Wd → Nat → Int32 → Int32 → Int64 → Int32 → Int32 → Int32 → Prop) (w : Wd) (a0 : Nat) (l1 : Int32) (l2 : Int32) (l3 : Int64) (l5 : Int32) (l6 : Int32) (l7 : Int32) : Prop :=
    if l5 ≤ l7 then (
      L35 w a0 l1 l2 l3 (l5 * 3) (l6 + 1)
    ) else (
      wob w a0 [24] ∧
      wp_X4_spell w a0 l7 l6 (fun w7 =>
      wob w7 a0 [24] ∧
      wp_X4_go w7 a0 l1 l6 (fun w8 =>
      wgG w8 (some a0) [24] 416 (fun v9 =>
      wld w8 v9 0 0 (fun v10 =>
      if v10 = (-1) then (
        wgG w8 (some a0) [24] 411 (fun v11 =>
        wld w8 v11 0 0 (fun v12 =>
        wp_X4_pondAt w8 v12 (fun v13 w14 =>
        L44 w14 a0 l1 l2 (l3 ||| ((1 : Int64) <<< ((v13 - 40).toInt64 &&& 63))) l5 l6 (l7 + 1))))
      ) else (
        L44 w8 a0 l1 l2 (l3 ||| 0) l5 l6 (l7 + 1)
      )))))
    )
def wl_X4_reach_44 (k : Int32 → Wd → Prop) (L35 : Wd → Nat → Int32 → Int32 → Int64 → Int32 → Int32 → Prop) (n : Nat) : Wd → Nat → Int32 → Int32 → Int64 → Int32 → Int32 → Int32 → Prop := Nat.rec (motive := fun _ => Wd → Nat → Int32 → Int32 → Int64 → Int32 → Int32 → Int32 → Prop) (fun _ _ _ _ _ _ _ _ => False) (fun _ L => wb_X4_reach_44 k L35 L) n
theorem wl_X4_reach_44_s (k : Int32 → Wd → Prop) (L35 : Wd → Nat → Int32 → Int32 → Int64 → Int32 → Int32 → Prop) (n : Nat) : wl_X4_reach_44 k L35 (n + 1) = wb_X4_reach_44 k L35 (wl_X4_reach_44 k L35 n) := rfl
theorem wl_X4_reach_44_0 (k : Int32 → Wd → Prop) (L35 : Wd → Nat → Int32 → Int32 → Int64 → Int32 → Int32 → Prop) : wl_X4_reach_44 k L35 0 = fun _ _ _ _ _ _ _ _ => False := rfl
def wb_X4_reach_35 (k : Int32 → Wd → Prop) (L35 : Wd → Nat → Int32 → Int32 → Int64 → Int32 → Int32 → Prop) (w : Wd) (a0 : Nat) (l1 : Int32) (l2 : Int32) (l3 : Int64) (l5 : Int32) (l6 : Int32) : Prop :=
    if l2 < l6 then (
      wl_X4_reach_121 k FU w l3 0 0
    ) else (
      wl_X4_reach_44 k L35 FU w a0 l1 l2 l3 l5 l6 0
    )
def wl_X4_reach_35 (k : Int32 → Wd → Prop) (n : Nat) : Wd → Nat → Int32 → Int32 → Int64 → Int32 → Int32 → Prop := Nat.rec (motive := fun _ => Wd → Nat → Int32 → Int32 → Int64 → Int32 → Int32 → Prop) (fun _ _ _ _ _ _ _ => False) (fun _ L => wb_X4_reach_35 k L) n
theorem wl_X4_reach_35_s (k : Int32 → Wd → Prop) (n : Nat) : wl_X4_reach_35 k (n + 1) = wb_X4_reach_35 k (wl_X4_reach_35 k n) := rfl
theorem wl_X4_reach_35_0 (k : Int32 → Wd → Prop) : wl_X4_reach_35 k 0 = fun _ _ _ _ _ _ _ => False := rfl
def wp_X4_reach (w : Wd) (a0 : Nat) (a1 : Int32) (a2 : Int32) (k : Int32 → Wd → Prop) : Prop :=
  wob w a0 [24] ∧
  wp_X4_isPerson w a0 a1 (fun v1 w2 =>
  if v1 = 0 then (
    wob w2 a0 [24] ∧
    wp_X4_refuse w2 a0 (-2) (fun v3 w4 =>
    k v3 w4)
  ) else (
    wp_X4_isIn w2 (a2.toInt64) 0 6 (fun v5 w6 =>
    if v5 = 0 then (
      wob w6 a0 [24] ∧
      wp_X4_refuse w6 a0 (-2) (fun v15 w16 =>
      k v15 w16)
    ) else (
      wl_X4_reach_35 k FU w6 a0 a1 a2 0 1 0
    ))
  ))
def wb_X4_open_37 (k : Int32 → Wd → Prop) (L37 : Wd → Nat → Int32 → Int32 → Int32 → Prop) (w : Wd) (a0 : Nat) (l2 : Int32) (l3 : Int32) (l4 : Int32) : Prop :=
    if l4 = (-1) then (
      k l3 w
    ) else (
      wob w a0 [24] ∧
      wp_X4_hasPond w a0 l4 (fun v9 w10 =>
      if v9 = 0 then (
        wob w10 a0 [24] ∧
        wp_X4_beside w10 a0 l4 l2 (fun v11 w12 =>
        L37 w12 a0 l2 (l3 + 1) v11)
      ) else (
        k l3 w10
      ))
    )
def wl_X4_open_37 (k : Int32 → Wd → Prop) (n : Nat) : Wd → Nat → Int32 → Int32 → Int32 → Prop := Nat.rec (motive := fun _ => Wd → Nat → Int32 → Int32 → Int32 → Prop) (fun _ _ _ _ _ => False) (fun _ L => wb_X4_open_37 k L) n
theorem wl_X4_open_37_s (k : Int32 → Wd → Prop) (n : Nat) : wl_X4_open_37 k (n + 1) = wb_X4_open_37 k (wl_X4_open_37 k n) := rfl
theorem wl_X4_open_37_0 (k : Int32 → Wd → Prop) : wl_X4_open_37 k 0 = fun _ _ _ _ _ => False := rfl
def wp_X4_open (w : Wd) (a0 : Nat) (a1 : Int32) (a2 : Int32) (k : Int32 → Wd → Prop) : Prop :=
  wob w a0 [24] ∧
  wp_X4_isCell w a0 a1 (fun v1 w2 =>
  if v1 = 0 then (
    wob w2 a0 [24] ∧
    wp_X4_refuse w2 a0 (-2) (fun v3 w4 =>
    k v3 w4)
  ) else (
    wp_X4_isIn w2 (a2.toInt64) 0 3 (fun v5 w6 =>
    if v5 = 0 then (
      wob w6 a0 [24] ∧
      wp_X4_refuse w6 a0 (-2) (fun v13 w14 =>
      k v13 w14)
    ) else (
      wob w6 a0 [24] ∧
      wp_X4_beside w6 a0 a1 a2 (fun v7 w8 =>
      wl_X4_open_37 k FU w8 a0 a2 0 v7)
    ))
  ))
def wb_X4_shore_4 (k : Int32 → Wd → Prop) (L4 : Wd → Nat → Int32 → Int32 → Prop) (w : Wd) (a0 : Nat) (l1 : Int32) (l2 : Int32) : Prop :=
    if (67 : Int32) ≤ l2 then (
      k l1 w
    ) else (
      wob w a0 [24] ∧
      wp_X4_isCell w a0 l2 (fun v1 w2 =>
      if v1 = 0 then (
        L4 w2 a0 (l1 + 0) (l2 + 1)
      ) else (
        wob w2 a0 [24] ∧
        wp_X4_hasPond w2 a0 l2 (fun v3 w4 =>
        if v3 = 0 then (
          wob w4 a0 [24] ∧
          wp_X4_isShore w4 a0 l2 (fun v5 w6 =>
          if v5 = 0 then (
            L4 w6 a0 (l1 + 0) (l2 + 1)
          ) else (
            L4 w6 a0 (l1 + 1) (l2 + 1)
          ))
        ) else (
          L4 w4 a0 (l1 + 0) (l2 + 1)
        ))
      ))
    )
def wl_X4_shore_4 (k : Int32 → Wd → Prop) (n : Nat) : Wd → Nat → Int32 → Int32 → Prop := Nat.rec (motive := fun _ => Wd → Nat → Int32 → Int32 → Prop) (fun _ _ _ _ => False) (fun _ L => wb_X4_shore_4 k L) n
theorem wl_X4_shore_4_s (k : Int32 → Wd → Prop) (n : Nat) : wl_X4_shore_4 k (n + 1) = wb_X4_shore_4 k (wl_X4_shore_4 k n) := rfl
theorem wl_X4_shore_4_0 (k : Int32 → Wd → Prop) : wl_X4_shore_4 k 0 = fun _ _ _ _ => False := rfl
def wp_X4_shore (w : Wd) (a0 : Nat) (k : Int32 → Wd → Prop) : Prop :=
  wl_X4_shore_4 k FU w a0 0 0
def wb_X4_weigh_4 (k : Int32 → Wd → Prop) (L4 : Wd → Nat → Int32 → Int32 → Int32 → Prop) (w : Wd) (a0 : Nat) (l1 : Int32) (l2 : Int32) (l3 : Int32) : Prop :=
    wob w a0 [24] ∧
    wp_X4_many w a0 (fun v1 w2 =>
    if v1 ≤ l3 then (
      k l2 w2
    ) else (
      wob w2 a0 [24] ∧
      wp_X4_isFor_2 w2 a0 l3 (fun v3 w4 =>
      if v3 = l1 then (
        wob w4 a0 [24] ∧
        wp_X4_a w4 a0 l3 (fun v5 w6 =>
        L4 w6 a0 l1 (l2 + v5) (l3 + 1))
      ) else (
        L4 w4 a0 l1 (l2 + 0) (l3 + 1)
      ))
    ))
def wl_X4_weigh_4 (k : Int32 → Wd → Prop) (n : Nat) : Wd → Nat → Int32 → Int32 → Int32 → Prop := Nat.rec (motive := fun _ => Wd → Nat → Int32 → Int32 → Int32 → Prop) (fun _ _ _ _ _ => False) (fun _ L => wb_X4_weigh_4 k L) n
theorem wl_X4_weigh_4_s (k : Int32 → Wd → Prop) (n : Nat) : wl_X4_weigh_4 k (n + 1) = wb_X4_weigh_4 k (wl_X4_weigh_4 k n) := rfl
theorem wl_X4_weigh_4_0 (k : Int32 → Wd → Prop) : wl_X4_weigh_4 k 0 = fun _ _ _ _ _ => False := rfl
def wp_X4_weigh (w : Wd) (a0 : Nat) (a1 : Int32) (k : Int32 → Wd → Prop) : Prop :=
  wl_X4_weigh_4 k FU w a0 a1 0 0
def wp_X4_bloc (w : Wd) (a0 : Nat) (a1 : Int32) (k : Int32 → Wd → Prop) : Prop :=
  wp_X4_isIn w (a1.toInt64) 0 1 (fun v1 w2 =>
  if v1 = 0 then (
    wob w2 a0 [24] ∧
    wp_X4_refuse w2 a0 (-2) (fun v3 w4 =>
    k v3 w4)
  ) else (
    wob w2 a0 [24] ∧
    wp_X4_weigh w2 a0 a1 (fun v5 w6 =>
    k v5 w6)
  ))
def wp_X4_carries (w : Wd) (a0 : Nat) (k : Int32 → Wd → Prop) : Prop :=
  wob w a0 [24] ∧
  wp_X4_weigh w a0 1 (fun v1 w2 =>
  wob w2 a0 [24] ∧
  wp_X4_weigh w2 a0 0 (fun v3 w4 =>
  if (v1 - v3) ≤ 0 then (
    if (0 : Int32) ≤ (v1 - v3) then (
      wgG w4 (some a0) [24] 401 (fun v5 =>
      wld w4 v5 0 91 (fun v6 =>
      k v6 w4))
    ) else (
      k 0 w4
    )
  ) else (
    k 1 w4
  )))
def wb_X4_power_43 (k : Int32 → Wd → Prop) (L17 : Wd → Nat → Int32 → Int32 → Int32 → Int32 → Prop) (L43 : Wd → Nat → Int32 → Int32 → Int32 → Int32 → Int32 → Int32 → Prop) (w : Wd) (a0 : Nat) (l1 : Int32) (l2 : Int32) (l3 : Int32) (l4 : Int32) (l5 : Int32) (l6 : Int32) : Prop :=
    wob w a0 [24] ∧
    wp_X4_many w a0 (fun v7 w8 =>
    if v7 ≤ l6 then (
      if l2 < (2 * l5) then (
        L17 w8 a0 l1 l2 (l3 + 0) (l4 + 1)
      ) else (
        wob w8 a0 [24] ∧
        wp_X4_a w8 a0 l1 (fun v9 w10 =>
        if ((2 : Int32) * (l5 + v9)) ≤ l2 then (
          L17 w10 a0 l1 l2 (l3 + 0) (l4 + 1)
        ) else (
          L17 w10 a0 l1 l2 (l3 + 1) (l4 + 1)
        ))
      )
    ) else (
      wob w8 a0 [24] ∧
      wp_X4_a w8 a0 l6 (fun v11 w12 =>
      L43 w12 a0 l1 l2 l3 l4 (l5 + (((l4 >>> (l6 &&& 31)) &&& 1) * v11)) (l6 + 1))
    ))
def wl_X4_power_43 (k : Int32 → Wd → Prop) (L17 : Wd → Nat → Int32 → Int32 → Int32 → Int32 → Prop) (n : Nat) : Wd → Nat → Int32 → Int32 → Int32 → Int32 → Int32 → Int32 → Prop := Nat.rec (motive := fun _ => Wd → Nat → Int32 → Int32 → Int32 → Int32 → Int32 → Int32 → Prop) (fun _ _ _ _ _ _ _ _ => False) (fun _ L => wb_X4_power_43 k L17 L) n
theorem wl_X4_power_43_s (k : Int32 → Wd → Prop) (L17 : Wd → Nat → Int32 → Int32 → Int32 → Int32 → Prop) (n : Nat) : wl_X4_power_43 k L17 (n + 1) = wb_X4_power_43 k L17 (wl_X4_power_43 k L17 n) := rfl
theorem wl_X4_power_43_0 (k : Int32 → Wd → Prop) (L17 : Wd → Nat → Int32 → Int32 → Int32 → Int32 → Prop) : wl_X4_power_43 k L17 0 = fun _ _ _ _ _ _ _ _ => False := rfl
def wb_X4_power_17 (k : Int32 → Wd → Prop) (L17 : Wd → Nat → Int32 → Int32 → Int32 → Int32 → Prop) (w : Wd) (a0 : Nat) (l1 : Int32) (l2 : Int32) (l3 : Int32) (l4 : Int32) : Prop :=
    wob w a0 [24] ∧
    wp_X4_many w a0 (fun v5 w6 =>
    if ((1 : Int32) <<< (v5 &&& 31)) ≤ l4 then (
      k l3 w6
    ) else (
      if ((l4 >>> (l1 &&& 31)) &&& 1) = 0 then (
        wl_X4_power_43 k L17 FU w6 a0 l1 l2 l3 l4 0 0
      ) else (
        L17 w6 a0 l1 l2 l3 (l4 + 1)
      )
    ))
def wl_X4_power_17 (k : Int32 → Wd → Prop) (n : Nat) : Wd → Nat → Int32 → Int32 → Int32 → Int32 → Prop := Nat.rec (motive := fun _ => Wd → Nat → Int32 → Int32 → Int32 → Int32 → Prop) (fun _ _ _ _ _ _ => False) (fun _ L => wb_X4_power_17 k L) n
theorem wl_X4_power_17_s (k : Int32 → Wd → Prop) (n : Nat) : wl_X4_power_17 k (n + 1) = wb_X4_power_17 k (wl_X4_power_17 k n) := rfl
theorem wl_X4_power_17_0 (k : Int32 → Wd → Prop) : wl_X4_power_17 k 0 = fun _ _ _ _ _ _ => False := rfl
def wp_X4_power (w : Wd) (a0 : Nat) (a1 : Int32) (k : Int32 → Wd → Prop) : Prop :=
  wob w a0 [24] ∧
  wp_X4_weigh w a0 0 (fun v1 w2 =>
  wob w2 a0 [24] ∧
  wp_X4_weigh w2 a0 1 (fun v3 w4 =>
  wl_X4_power_17 k FU w4 a0 a1 (v1 + v3) 0 0))
def wp_X4_personOf (w : Wd) (a0 : Nat) (a1 : Int32) (a2 : Int32) (k : Int32 → Wd → Prop) : Prop :=
  wob w a0 [24] ∧
  wp_X4_isPerson w a0 a1 (fun v1 w2 =>
  if v1 = 0 then (
    wob w2 a0 [24] ∧
    wp_X4_refuse w2 a0 (-2) (fun v3 w4 =>
    k v3 w4)
  ) else (
    wp_X4_isIn w2 (a2.toInt64) 0 5 (fun v5 w6 =>
    if v5 = 0 then (
      wob w6 a0 [24] ∧
      wp_X4_refuse w6 a0 (-2) (fun v11 w12 =>
      k v11 w12)
    ) else (
      if (5 : Int32) ≤ a2 then (
        wob w6 a0 [24] ∧
        wp_X4_power w6 a0 a1 (fun v7 w8 =>
        k v7 w8)
      ) else (
        wgG w6 (some a0) [24] 401 (fun v9 =>
        wld w6 v9 0 ((5 * a1) + a2) (fun v10 =>
        k v10 w6))
      )
    ))
  ))
def wb_X4_mightiest_18 (k : Int32 → Wd → Prop) (L18 : Wd → Nat → Int32 → Int32 → Prop) (w : Wd) (a0 : Nat) (l1 : Int32) (l2 : Int32) : Prop :=
    wob w a0 [24] ∧
    wp_X4_many w a0 (fun v3 w4 =>
    if v3 ≤ l2 then (
      k l1 w4
    ) else (
      wob w4 a0 [24] ∧
      wp_X4_power w4 a0 l2 (fun v5 w6 =>
      wob w6 a0 [24] ∧
      wp_X4_power w6 a0 l1 (fun v7 w8 =>
      if v5 ≤ v7 then (
        L18 w8 a0 l1 (l2 + 1)
      ) else (
        L18 w8 a0 l2 (l2 + 1)
      )))
    ))
def wl_X4_mightiest_18 (k : Int32 → Wd → Prop) (n : Nat) : Wd → Nat → Int32 → Int32 → Prop := Nat.rec (motive := fun _ => Wd → Nat → Int32 → Int32 → Prop) (fun _ _ _ _ => False) (fun _ L => wb_X4_mightiest_18 k L) n
theorem wl_X4_mightiest_18_s (k : Int32 → Wd → Prop) (n : Nat) : wl_X4_mightiest_18 k (n + 1) = wb_X4_mightiest_18 k (wl_X4_mightiest_18 k n) := rfl
theorem wl_X4_mightiest_18_0 (k : Int32 → Wd → Prop) : wl_X4_mightiest_18 k 0 = fun _ _ _ _ => False := rfl
def wp_X4_mightiest (w : Wd) (a0 : Nat) (k : Int32 → Wd → Prop) : Prop :=
  wob w a0 [24] ∧
  wp_X4_many w a0 (fun v1 w2 =>
  if v1 = 0 then (
    wob w2 a0 [24] ∧
    wp_X4_refuse w2 a0 (-5) (fun v9 w10 =>
    k v9 w10)
  ) else (
    wl_X4_mightiest_18 k FU w2 a0 0 1
  ))
def wb_X4_change_2 (k : Wd → Prop) (L2 : Wd → Nat → Int32 → Int32 → Prop) (w : Wd) (a0 : Nat) (l1 : Int32) (l2 : Int32) : Prop :=
    wob w a0 [24] ∧
    wp_X4_many w a0 (fun v1 w2 =>
    if v1 ≤ l2 then (
      k w2
    ) else (
      wgG w2 (some a0) [24] 401 (fun v3 =>
      wld w2 v3 0 ((5 * l2) + 4) (fun v4 =>
      wst w2 v3 0 ((5 * l2) + 4) (v4 ^^^ ((l1 >>> (l2 &&& 31)) &&& 1)) (fun w5 =>
      L2 w5 a0 l1 (l2 + 1))))
    ))
def wl_X4_change_2 (k : Wd → Prop) (n : Nat) : Wd → Nat → Int32 → Int32 → Prop := Nat.rec (motive := fun _ => Wd → Nat → Int32 → Int32 → Prop) (fun _ _ _ _ => False) (fun _ L => wb_X4_change_2 k L) n
theorem wl_X4_change_2_s (k : Wd → Prop) (n : Nat) : wl_X4_change_2 k (n + 1) = wb_X4_change_2 k (wl_X4_change_2 k n) := rfl
theorem wl_X4_change_2_0 (k : Wd → Prop) : wl_X4_change_2 k 0 = fun _ _ _ _ => False := rfl
def wp_X4_change (w : Wd) (a0 : Nat) (a1 : Int32) (k : Wd → Prop) : Prop :=
  wl_X4_change_2 k FU w a0 a1 0
def wp_X4_swing (w : Wd) (a0 : Nat) (a1 : Int32) (k : Int32 → Wd → Prop) : Prop :=
  wob w a0 [24] ∧
  wp_X4_isPerson w a0 a1 (fun v1 w2 =>
  if v1 = 0 then (
    wob w2 a0 [24] ∧
    wp_X4_refuse w2 a0 (-2) (fun v9 w10 =>
    k v9 w10)
  ) else (
    wob w2 a0 [24] ∧
    wp_X4_carries w2 a0 (fun v3 w4 =>
    wob w4 a0 [24] ∧
    wp_X4_change w4 a0 (1 <<< (a1 &&& 31)) (fun w5 =>
    wob w5 a0 [24] ∧
    wp_X4_carries w5 a0 (fun v6 w7 =>
    wob w7 a0 [24] ∧
    wp_X4_change w7 a0 (1 <<< (a1 &&& 31)) (fun w8 =>
    if v3 = v6 then (
      k 0 w8
    ) else (
      k 1 w8
    )))))
  ))
def wb_X4_ones_4 (k : Int32 → Wd → Prop) (L4 : Wd → Int32 → Int32 → Int32 → Prop) (w : Wd) (l0 : Int32) (l1 : Int32) (l2 : Int32) : Prop :=
    if (8 : Int32) ≤ l2 then (
      k l1 w
    ) else (
      L4 w l0 (l1 + ((l0 >>> (l2 &&& 31)) &&& 1)) (l2 + 1)
    )
def wl_X4_ones_4 (k : Int32 → Wd → Prop) (n : Nat) : Wd → Int32 → Int32 → Int32 → Prop := Nat.rec (motive := fun _ => Wd → Int32 → Int32 → Int32 → Prop) (fun _ _ _ _ => False) (fun _ L => wb_X4_ones_4 k L) n
theorem wl_X4_ones_4_s (k : Int32 → Wd → Prop) (n : Nat) : wl_X4_ones_4 k (n + 1) = wb_X4_ones_4 k (wl_X4_ones_4 k n) := rfl
theorem wl_X4_ones_4_0 (k : Int32 → Wd → Prop) : wl_X4_ones_4 k 0 = fun _ _ _ _ => False := rfl
def wp_X4_ones (w : Wd) (a0 : Int32) (k : Int32 → Wd → Prop) : Prop :=
  wl_X4_ones_4 k FU w a0 0 0
def wb_X4_turn_57 (k : Int32 → Wd → Prop) (L27 : Wd → Nat → Int32 → Int32 → Int32 → Int32 → Prop) (w : Wd) (a0 : Nat) (l1 : Int32) (l2 : Int32) (l3 : Int32) (l4 : Int32) (s0 : Int32) : Prop :=
    wob w a0 [24] ∧
    wp_X4_change w a0 l4 (fun w12 =>
    if s0 = 0 then (
      L27 w12 a0 l1 l2 l3 (l4 + 1)
    ) else (
      if l3 = (-1) then (
        L27 w12 a0 l1 l2 l4 (l4 + 1)
      ) else (
        wp_X4_ones w12 l4 (fun v13 w14 =>
        wp_X4_ones w14 l3 (fun v15 w16 =>
        if v15 ≤ v13 then (
          L27 w16 a0 l1 l2 l3 (l4 + 1)
        ) else (
          L27 w16 a0 l1 l2 l4 (l4 + 1)
        )))
      )
    ))
def wb_X4_turn_27 (k : Int32 → Wd → Prop) (L27 : Wd → Nat → Int32 → Int32 → Int32 → Int32 → Prop) (w : Wd) (a0 : Nat) (l1 : Int32) (l2 : Int32) (l3 : Int32) (l4 : Int32) : Prop :=
    wob w a0 [24] ∧
    wp_X4_many w a0 (fun v5 w6 =>
    if ((1 : Int32) <<< (v5 &&& 31)) ≤ l4 then (
      if l3 = (-1) then (
        k (-1) w6
      ) else (
        if l1 = 0 then (
          wp_X4_ones w6 l3 (fun v7 w8 =>
          k v7 w8)
        ) else (
          k l3 w6
        )
      )
    ) else (
      wob w6 a0 [24] ∧
      wp_X4_change w6 a0 l4 (fun w9 =>
      wob w9 a0 [24] ∧
      wp_X4_carries w9 a0 (fun v10 w11 =>
      if v10 = l2 then (
        wb_X4_turn_57 k L27 w11 a0 l1 l2 l3 l4 0
      ) else (
        wb_X4_turn_57 k L27 w11 a0 l1 l2 l3 l4 1
      )))
    ))
def wl_X4_turn_27 (k : Int32 → Wd → Prop) (n : Nat) : Wd → Nat → Int32 → Int32 → Int32 → Int32 → Prop := Nat.rec (motive := fun _ => Wd → Nat → Int32 → Int32 → Int32 → Int32 → Prop) (fun _ _ _ _ _ _ => False) (fun _ L => wb_X4_turn_27 k L) n
theorem wl_X4_turn_27_s (k : Int32 → Wd → Prop) (n : Nat) : wl_X4_turn_27 k (n + 1) = wb_X4_turn_27 k (wl_X4_turn_27 k n) := rfl
theorem wl_X4_turn_27_0 (k : Int32 → Wd → Prop) : wl_X4_turn_27 k 0 = fun _ _ _ _ _ _ => False := rfl
def wp_X4_turn (w : Wd) (a0 : Nat) (a1 : Int32) (k : Int32 → Wd → Prop) : Prop :=
  wp_X4_isIn w (a1.toInt64) 0 1 (fun v1 w2 =>
  if v1 = 0 then (
    wob w2 a0 [24] ∧
    wp_X4_refuse w2 a0 (-2) (fun v17 w18 =>
    k v17 w18)
  ) else (
    wob w2 a0 [24] ∧
    wp_X4_carries w2 a0 (fun v3 w4 =>
    wl_X4_turn_27 k FU w4 a0 a1 v3 (-1) 1)
  ))
def wb_X4_agreed_4 (k : Int32 → Wd → Prop) (L4 : Wd → Nat → Int32 → Int32 → Prop) (w : Wd) (a0 : Nat) (l1 : Int32) (l2 : Int32) : Prop :=
    wob w a0 [24] ∧
    wp_X4_many w a0 (fun v1 w2 =>
    if v1 ≤ l2 then (
      k l1 w2
    ) else (
      wob w2 a0 [24] ∧
      wp_X4_cell w2 a0 l2 (fun v3 w4 =>
      wob w4 a0 [24] ∧
      wp_X4_faces w4 a0 l2 (fun v5 w6 =>
      wob w6 a0 [24] ∧
      wp_X4_start w6 a0 0 v3 v5 (fun w7 =>
      wob w7 a0 [24] ∧
      wp_X4_goesBy w7 a0 0 l2 1 (fun v8 w9 =>
      wgG w9 (some a0) [24] 401 (fun v10 =>
      wld w9 v10 0 91 (fun v11 =>
      if v8 = v11 then (
        L4 w9 a0 (l1 ||| (1 <<< (l2 &&& 31))) (l2 + 1)
      ) else (
        L4 w9 a0 (l1 ||| 0) (l2 + 1)
      )))))))
    ))
def wl_X4_agreed_4 (k : Int32 → Wd → Prop) (n : Nat) : Wd → Nat → Int32 → Int32 → Prop := Nat.rec (motive := fun _ => Wd → Nat → Int32 → Int32 → Prop) (fun _ _ _ _ => False) (fun _ L => wb_X4_agreed_4 k L) n
theorem wl_X4_agreed_4_s (k : Int32 → Wd → Prop) (n : Nat) : wl_X4_agreed_4 k (n + 1) = wb_X4_agreed_4 k (wl_X4_agreed_4 k n) := rfl
theorem wl_X4_agreed_4_0 (k : Int32 → Wd → Prop) : wl_X4_agreed_4 k 0 = fun _ _ _ _ => False := rfl
def wp_X4_agreed (w : Wd) (a0 : Nat) (k : Int32 → Wd → Prop) : Prop :=
  wl_X4_agreed_4 k FU w a0 0 0
def wb_X4_loadBoth_184 (k : Int32 → Wd → Prop) (w : Wd) (a0 : Nat) (l4 : Int32) (l5 : Int32) (l7 : Int32) : Prop :=
    if l7 = 1 then (
      wob w a0 [24] ∧
      wp_X4_load w a0 l4 l5 (fun v27 w28 =>
      k v27 w28)
    ) else (
      k l7 w
    )
def wb_X4_loadBoth_152 (k : Int32 → Wd → Prop) (L152 : Wd → Nat → Int32 → Int32 → Int32 → Int32 → Int32 → Prop) (w : Wd) (a0 : Nat) (l2 : Int32) (l4 : Int32) (l5 : Int32) (l7 : Int32) (l8 : Int32) : Prop :=
    if l2 ≤ l8 then (
      wb_X4_loadBoth_184 k w a0 l4 l5 l7
    ) else (
      if l7 = 1 then (
        wgG w (some a0) [24] 425 (fun v29 =>
        wgG w (some a0) [24] 418 (fun v30 =>
        wld w v30 0 l8 (fun v31 =>
        wst w v29 0 l8 v31 (fun w32 =>
        L152 w32 a0 l2 l4 l5 l7 (l8 + 1)))))
      ) else (
        wb_X4_loadBoth_184 k w a0 l4 l5 l7
      )
    )
def wl_X4_loadBoth_152 (k : Int32 → Wd → Prop) (n : Nat) : Wd → Nat → Int32 → Int32 → Int32 → Int32 → Int32 → Prop := Nat.rec (motive := fun _ => Wd → Nat → Int32 → Int32 → Int32 → Int32 → Int32 → Prop) (fun _ _ _ _ _ _ _ => False) (fun _ L => wb_X4_loadBoth_152 k L) n
theorem wl_X4_loadBoth_152_s (k : Int32 → Wd → Prop) (n : Nat) : wl_X4_loadBoth_152 k (n + 1) = wb_X4_loadBoth_152 k (wl_X4_loadBoth_152 k n) := rfl
theorem wl_X4_loadBoth_152_0 (k : Int32 → Wd → Prop) : wl_X4_loadBoth_152 k 0 = fun _ _ _ _ _ _ _ => False := rfl
def wp_X4_loadBoth (w : Wd) (a0 : Nat) (a1 : Int32) (a2 : Int32) (a3 : Int32) (a4 : Int32) (a5 : Int32) (a6 : Int32) (k : Int32 → Wd → Prop) : Prop :=
  wp_X4_isShelf w a1 (fun v1 w2 =>
  if v1 = 0 then (
    k (-2) w2
  ) else (
    wp_X4_isShelf w2 a4 (fun v3 w4 =>
    if v3 = 0 then (
      k (-2) w4
    ) else (
      wp_X4_isIn w4 (a2.toInt64) 0 40 (fun v5 w6 =>
      if v5 = 0 then (
        k (-2) w6
      ) else (
        wp_X4_isIn w6 (a5.toInt64) 0 40 (fun v7 w8 =>
        if v7 = 0 then (
          k (-2) w8
        ) else (
          wob w8 a0 [24] ∧
          wp_X4_isPerson w8 a0 a3 (fun v9 w10 =>
          if v9 = 0 then (
            k (-2) w10
          ) else (
            wob w10 a0 [24] ∧
            wp_X4_isPerson w10 a0 a6 (fun v11 w12 =>
            if v11 = 0 then (
              k (-2) w12
            ) else (
              if a3 = a6 then (
                k (-2) w12
              ) else (
                wgG w12 (some a0) [24] 419 (fun v13 =>
                wld w12 v13 0 a1 (fun v14 =>
                if (10 : Int32) ≤ v14 then (
                  k (-3) w12
                ) else (
                  wgG w12 (some a0) [24] 419 (fun v15 =>
                  wld w12 v15 0 a4 (fun v16 =>
                  if v16 < 10 then (
                    wgG w12 (some a0) [24] 419 (fun v17 =>
                    wld w12 v17 0 a1 (fun v18 =>
                    if v18 = (-1) then (
                      k (-4) w12
                    ) else (
                      wgG w12 (some a0) [24] 419 (fun v19 =>
                      wld w12 v19 0 a4 (fun v20 =>
                      if v20 = (-1) then (
                        k (-4) w12
                      ) else (
                        wgG w12 (some a0) [24] 420 (fun v21 =>
                        wld w12 v21 0 a1 (fun v22 =>
                        if v22 < a2 then (
                          k (-2) w12
                        ) else (
                          wgG w12 (some a0) [24] 420 (fun v23 =>
                          wld w12 v23 0 a4 (fun v24 =>
                          if a5 ≤ v24 then (
                            wob w12 a0 [24] ∧
                            wp_X4_load w12 a0 a1 a2 (fun v25 w26 =>
                            wl_X4_loadBoth_152 k FU w26 a0 a2 a4 a5 v25 0)
                          ) else (
                            k (-2) w12
                          )))
                        )))
                      )))
                    )))
                  ) else (
                    k (-3) w12
                  )))
                )))
              )
            ))
          ))
        ))
      ))
    ))
  ))
def wb_X4_met_143 (k : Int32 → Wd → Prop) (L52 : Wd → Nat → Int32 → Int32 → Int32 → Int32 → Int32 → Int32 → Prop) (w : Wd) (a0 : Nat) (l1 : Int32) (l2 : Int32) (l3 : Int32) (l4 : Int32) (l5 : Int32) (l6 : Int32) (l7 : Int32) (l8 : Int32) (s0 : Option Nat) (s1 : Int32) (s2 : Int32) (s3 : Int32) : Prop :=
    wnn s0 (fun b26 =>
    wob w b26 [24] ∧
    wp_X4_step w b26 s1 s2 s3 l6 (fun w25 =>
    wgG w25 (some a0) [24] 411 (fun v27 =>
    wld w25 v27 0 0 (fun v28 =>
    wgG w25 (some a0) [24] 411 (fun v29 =>
    wld w25 v29 0 1 (fun v30 =>
    if v28 = v30 then (
      k (l6 + 1) w25
    ) else (
      wgG w25 (some a0) [24] 411 (fun v31 =>
      wld w25 v31 0 0 (fun v32 =>
      if v32 = l8 then (
        wgG w25 (some a0) [24] 411 (fun v33 =>
        wld w25 v33 0 1 (fun v34 =>
        if v34 = l7 then (
          k (l6 + 1) w25
        ) else (
          L52 w25 a0 l1 l2 l3 l4 l5 (l6 + 1)
        )))
      ) else (
        L52 w25 a0 l1 l2 l3 l4 l5 (l6 + 1)
      )))
    )))))))
def wb_X4_met_101 (k : Int32 → Wd → Prop) (L52 : Wd → Nat → Int32 → Int32 → Int32 → Int32 → Int32 → Int32 → Prop) (w : Wd) (a0 : Nat) (l1 : Int32) (l2 : Int32) (l3 : Int32) (l4 : Int32) (l5 : Int32) (l6 : Int32) (l7 : Int32) (l8 : Int32) (s0 : Option Nat) (s1 : Int32) (s2 : Int32) (s3 : Int32) : Prop :=
    wnn s0 (fun b22 =>
    wob w b22 [24] ∧
    wp_X4_step w b22 s1 s2 s3 l6 (fun w21 =>
    wp_X4_isIn w21 (l6.toInt64) (l5.toInt64) (((l3 + l5) - 1).toInt64) (fun v23 w24 =>
    if v23 = 0 then (
      wb_X4_met_143 k L52 w24 a0 l1 l2 l3 l4 l5 l6 l7 l8 (some a0) 1 l4 3
    ) else (
      wgG w24 (some a0) [24] 418 (fun v35 =>
      wld w24 v35 0 (l6 - l5) (fun v36 =>
      wb_X4_met_143 k L52 w24 a0 l1 l2 l3 l4 l5 l6 l7 l8 (some a0) 1 l4 v36))
    ))))
def wb_X4_met_52 (k : Int32 → Wd → Prop) (L52 : Wd → Nat → Int32 → Int32 → Int32 → Int32 → Int32 → Int32 → Prop) (w : Wd) (a0 : Nat) (l1 : Int32) (l2 : Int32) (l3 : Int32) (l4 : Int32) (l5 : Int32) (l6 : Int32) : Prop :=
    wp_J14_max w l1 (l3 + l5) (fun v15 w16 =>
    if v15 ≤ l6 then (
      k (-1) w16
    ) else (
      wgG w16 (some a0) [24] 411 (fun v17 =>
      wld w16 v17 0 0 (fun v18 =>
      wgG w16 (some a0) [24] 411 (fun v19 =>
      wld w16 v19 0 1 (fun v20 =>
      if l1 ≤ l6 then (
        wb_X4_met_101 k L52 w16 a0 l1 l2 l3 l4 l5 l6 v18 v20 (some a0) 0 l2 3
      ) else (
        wgG w16 (some a0) [24] 425 (fun v37 =>
        wld w16 v37 0 l6 (fun v38 =>
        wb_X4_met_101 k L52 w16 a0 l1 l2 l3 l4 l5 l6 v18 v20 (some a0) 0 l2 v38))
      )))))
    ))
def wl_X4_met_52 (k : Int32 → Wd → Prop) (n : Nat) : Wd → Nat → Int32 → Int32 → Int32 → Int32 → Int32 → Int32 → Prop := Nat.rec (motive := fun _ => Wd → Nat → Int32 → Int32 → Int32 → Int32 → Int32 → Int32 → Prop) (fun _ _ _ _ _ _ _ _ => False) (fun _ L => wb_X4_met_52 k L) n
theorem wl_X4_met_52_s (k : Int32 → Wd → Prop) (n : Nat) : wl_X4_met_52 k (n + 1) = wb_X4_met_52 k (wl_X4_met_52 k n) := rfl
theorem wl_X4_met_52_0 (k : Int32 → Wd → Prop) : wl_X4_met_52 k 0 = fun _ _ _ _ _ _ _ _ => False := rfl
def wp_X4_met (w : Wd) (a0 : Nat) (a1 : Int32) (a2 : Int32) (a3 : Int32) (a4 : Int32) (a5 : Int32) (k : Int32 → Wd → Prop) : Prop :=
  wob w a0 [24] ∧
  wp_X4_cell w a0 a2 (fun v1 w2 =>
  wob w2 a0 [24] ∧
  wp_X4_faces w2 a0 a2 (fun v3 w4 =>
  wob w4 a0 [24] ∧
  wp_X4_start w4 a0 0 v1 v3 (fun w5 =>
  wob w5 a0 [24] ∧
  wp_X4_cell w5 a0 a4 (fun v6 w7 =>
  wob w7 a0 [24] ∧
  wp_X4_faces w7 a0 a4 (fun v8 w9 =>
  wob w9 a0 [24] ∧
  wp_X4_start w9 a0 1 v6 v8 (fun w10 =>
  wgG w10 (some a0) [24] 411 (fun v11 =>
  wld w10 v11 0 0 (fun v12 =>
  wgG w10 (some a0) [24] 411 (fun v13 =>
  wld w10 v13 0 1 (fun v14 =>
  if v12 = v14 then (
    k 0 w10
  ) else (
    wl_X4_met_52 k FU w10 a0 a1 a2 a3 a4 a5 0
  )))))))))))
def wp_X4_meet (w : Wd) (a0 : Nat) (a1 : Int32) (a2 : Int32) (a3 : Int32) (a4 : Int32) (a5 : Int32) (a6 : Int32) (k : Int32 → Wd → Prop) : Prop :=
  wob w a0 [24] ∧
  wp_X4_loadBoth w a0 a1 a2 a3 a4 a5 a6 (fun v1 w2 =>
  if (0 : Int32) ≤ v1 then (
    wob w2 a0 [24] ∧
    wp_X4_met w2 a0 a2 a3 a5 a6 0 (fun v3 w4 =>
    k v3 w4)
  ) else (
    wob w2 a0 [24] ∧
    wp_X4_refuse w2 a0 v1 (fun v5 w6 =>
    k v5 w6)
  ))
def wb_X4_waits_30 (k : Int32 → Wd → Prop) (L30 : Wd → Nat → Int32 → Int32 → Int32 → Int32 → Int32 → Prop) (w : Wd) (a0 : Nat) (l2 : Int32) (l3 : Int32) (l5 : Int32) (l6 : Int32) (l8 : Int32) : Prop :=
    if (10 : Int32) ≤ l8 then (
      k (-1) w
    ) else (
      wob w a0 [24] ∧
      wp_X4_met w a0 l2 l3 l5 l6 l8 (fun v3 w4 =>
      if v3 = (-1) then (
        k l8 w4
      ) else (
        L30 w4 a0 l2 l3 l5 l6 (l8 + 1)
      ))
    )
def wl_X4_waits_30 (k : Int32 → Wd → Prop) (n : Nat) : Wd → Nat → Int32 → Int32 → Int32 → Int32 → Int32 → Prop := Nat.rec (motive := fun _ => Wd → Nat → Int32 → Int32 → Int32 → Int32 → Int32 → Prop) (fun _ _ _ _ _ _ _ => False) (fun _ L => wb_X4_waits_30 k L) n
theorem wl_X4_waits_30_s (k : Int32 → Wd → Prop) (n : Nat) : wl_X4_waits_30 k (n + 1) = wb_X4_waits_30 k (wl_X4_waits_30 k n) := rfl
theorem wl_X4_waits_30_0 (k : Int32 → Wd → Prop) : wl_X4_waits_30 k 0 = fun _ _ _ _ _ _ _ => False := rfl
def wp_X4_waits (w : Wd) (a0 : Nat) (a1 : Int32) (a2 : Int32) (a3 : Int32) (a4 : Int32) (a5 : Int32) (a6 : Int32) (k : Int32 → Wd → Prop) : Prop :=
  wob w a0 [24] ∧
  wp_X4_loadBoth w a0 a1 a2 a3 a4 a5 a6 (fun v1 w2 =>
  if (0 : Int32) ≤ v1 then (
    wl_X4_waits_30 k FU w2 a0 a2 a3 a5 a6 0
  ) else (
    wob w2 a0 [24] ∧
    wp_X4_refuse w2 a0 v1 (fun v5 w6 =>
    k v5 w6)
  ))
def wb_X4_judge_63 (k : Int32 → Wd → Prop) (L63 : Wd → Nat → Int32 → Int32 → Int32 → Prop) (w : Wd) (a0 : Nat) (l1 : Int32) (l2 : Int32) (l3 : Int32) : Prop :=
    if l2 ≤ l3 then (
      k (-1) w
    ) else (
      wgG w (some a0) [24] 421 (fun v11 =>
      wldL w v11 ((40 * l1) + l3) (fun v12 =>
      wp_X4_isIn w v12 0 3 (fun v13 w14 =>
      if v13 = 0 then (
        k l3 w14
      ) else (
        L63 w14 a0 l1 l2 (l3 + 1)
      ))))
    )
def wl_X4_judge_63 (k : Int32 → Wd → Prop) (n : Nat) : Wd → Nat → Int32 → Int32 → Int32 → Prop := Nat.rec (motive := fun _ => Wd → Nat → Int32 → Int32 → Int32 → Prop) (fun _ _ _ _ _ => False) (fun _ L => wb_X4_judge_63 k L) n
theorem wl_X4_judge_63_s (k : Int32 → Wd → Prop) (n : Nat) : wl_X4_judge_63 k (n + 1) = wb_X4_judge_63 k (wl_X4_judge_63 k n) := rfl
theorem wl_X4_judge_63_0 (k : Int32 → Wd → Prop) : wl_X4_judge_63 k 0 = fun _ _ _ _ _ => False := rfl
def wp_X4_judge (w : Wd) (a0 : Nat) (a1 : Int32) (a2 : Int32) (k : Int32 → Wd → Prop) : Prop :=
  wp_X4_isShelf w a1 (fun v1 w2 =>
  if v1 = 0 then (
    wob w2 a0 [24] ∧
    wp_X4_refuse w2 a0 (-2) (fun v3 w4 =>
    k v3 w4)
  ) else (
    wp_X4_isIn w2 (a2.toInt64) 0 40 (fun v5 w6 =>
    if v5 = 0 then (
      wob w6 a0 [24] ∧
      wp_X4_refuse w6 a0 (-2) (fun v21 w22 =>
      k v21 w22)
    ) else (
      wob w6 a0 [24] ∧
      wp_X4_rowIn w6 a0 a1 (fun v7 w8 =>
      if (0 : Int32) ≤ v7 then (
        wgG w8 (some a0) [24] 420 (fun v9 =>
        wld w8 v9 0 a1 (fun v10 =>
        if a2 ≤ v10 then (
          wl_X4_judge_63 k FU w8 a0 a1 a2 0
        ) else (
          wob w8 a0 [24] ∧
          wp_X4_refuse w8 a0 (-2) (fun v15 w16 =>
          k v15 w16)
        )))
      ) else (
        wob w8 a0 [24] ∧
        wp_X4_rowIn w8 a0 a1 (fun v17 w18 =>
        wob w18 a0 [24] ∧
        wp_X4_refuse w18 a0 v17 (fun v19 w20 =>
        k v19 w20))
      ))
    ))
  ))
def wb_X4_walk_75 (k : Int32 → Wd → Prop) (w : Wd) (a0 : Nat) (l3 : Int32) (l5 : Int32) (s0 : Option Nat) (s1 : Int32) (s2 : Int32) : Prop :=
    wst w s0 0 s1 s2 (fun w11 =>
    wgG w11 (some a0) [24] 401 (fun v12 =>
    wgG w11 (some a0) [24] 412 (fun v13 =>
    wld w11 v13 0 0 (fun v14 =>
    wst w11 v12 0 ((5 * l3) + 3) v14 (fun w15 =>
    wgG w15 (some a0) [24] 401 (fun v16 =>
    wld w15 v16 0 95 (fun v17 =>
    if l5 = 0 then (
      wst w15 v16 0 95 (v17 + 0) (fun w18 =>
      wob w18 a0 [24] ∧
      wp_X4_cell w18 a0 l3 (fun v19 w20 =>
      k v19 w20))
    ) else (
      wst w15 v16 0 95 (v17 + 1) (fun w21 =>
      wob w21 a0 [24] ∧
      wp_X4_cell w21 a0 l3 (fun v22 w23 =>
      k v22 w23))
    ))))))))
def wb_X4_walk_46 (k : Int32 → Wd → Prop) (w : Wd) (a0 : Nat) (l3 : Int32) (s0 : Int32) : Prop :=
    wgG w (some a0) [24] 401 (fun v8 =>
    if s0 = 0 then (
      wgG w (some a0) [24] 411 (fun v9 =>
      wld w v9 0 0 (fun v10 =>
      wb_X4_walk_75 k w a0 l3 s0 v8 ((5 * l3) + 2) v10))
    ) else (
      wgF w (some a0) [24] 417 (fun v24 =>
      wb_X4_walk_75 k w a0 l3 s0 v8 ((5 * l3) + 2) v24)
    ))
def wp_X4_walk (w : Wd) (a0 : Nat) (a1 : Int32) (a2 : Int32) (a3 : Int32) (k : Int32 → Wd → Prop) : Prop :=
  wob w a0 [24] ∧
  wp_X4_isPerson w a0 a3 (fun v1 w2 =>
  wob w2 a0 [24] ∧
  wp_X4_loadIf w2 a0 v1 a1 a2 (fun v3 w4 =>
  if (0 : Int32) ≤ v3 then (
    wob w4 a0 [24] ∧
    wp_X4_go w4 a0 a3 a2 (fun w5 =>
    wgG w5 (some a0) [24] 416 (fun v6 =>
    wld w5 v6 0 0 (fun v7 =>
    if v7 = (-1) then (
      wb_X4_walk_46 k w5 a0 a3 0
    ) else (
      wb_X4_walk_46 k w5 a0 a3 1
    ))))
  ) else (
    wob w4 a0 [24] ∧
    wp_X4_refuse w4 a0 v3 (fun v25 w26 =>
    k v25 w26)
  )))
def wp_X4_draw (w : Wd) (a0 : Nat) (a1 : Int32) (k : Int32 → Wd → Prop) : Prop :=
  wgG w (some a0) [24] 401 (fun v1 =>
  wgG w (some a0) [24] 401 (fun v2 =>
  wld w v2 0 96 (fun v3 =>
  wst w v1 0 96 ((v3 * 1103515245) + 12345) (fun w4 =>
  wgG w4 (some a0) [24] 401 (fun v5 =>
  wld w4 v5 0 96 (fun v6 =>
  (¬ a1 = 0) ∧ (
  k (((v6.toUInt32 >>> ((16 : Int32).toUInt32 &&& Int32.toUInt32 31)).toInt32) - ((v6.toUInt32 >>> ((16 : Int32).toUInt32 &&& Int32.toUInt32 31)).toInt32) / a1 * a1) w4)))))))
def wb_X4_years_56 (k : Int32 → Wd → Prop) (L21 : Wd → Nat → Int32 → Int32 → Prop) (L56 : Wd → Nat → Int32 → Int32 → Int32 → Prop) (w : Wd) (a0 : Nat) (l1 : Int32) (l2 : Int32) (l4 : Int32) : Prop :=
    wob w a0 [24] ∧
    wp_X4_many w a0 (fun v13 w14 =>
    if v13 ≤ l4 then (
      wgG w14 (some a0) [24] 401 (fun v15 =>
      wld w14 v15 0 94 (fun v16 =>
      wst w14 v15 0 94 (v16 + 1) (fun w17 =>
      L21 w17 a0 l1 (l2 + 1))))
    ) else (
      wgG w14 (some a0) [24] 401 (fun v18 =>
      wld w14 v18 0 ((5 * l4) + 4) (fun v19 =>
      wob w14 a0 [24] ∧
      wp_X4_draw w14 a0 12 (fun v20 w21 =>
      wgG w21 (some a0) [24] 401 (fun v22 =>
      wld w21 v22 0 93 (fun v23 =>
      if v23 ≤ v20 then (
        wst w21 v18 0 ((5 * l4) + 4) (v19 ^^^ 0) (fun w24 =>
        L56 w24 a0 l1 l2 (l4 + 1))
      ) else (
        wst w21 v18 0 ((5 * l4) + 4) (v19 ^^^ 1) (fun w25 =>
        L56 w25 a0 l1 l2 (l4 + 1))
      ))))))
    ))
def wl_X4_years_56 (k : Int32 → Wd → Prop) (L21 : Wd → Nat → Int32 → Int32 → Prop) (n : Nat) : Wd → Nat → Int32 → Int32 → Int32 → Prop := Nat.rec (motive := fun _ => Wd → Nat → Int32 → Int32 → Int32 → Prop) (fun _ _ _ _ _ => False) (fun _ L => wb_X4_years_56 k L21 L) n
theorem wl_X4_years_56_s (k : Int32 → Wd → Prop) (L21 : Wd → Nat → Int32 → Int32 → Prop) (n : Nat) : wl_X4_years_56 k L21 (n + 1) = wb_X4_years_56 k L21 (wl_X4_years_56 k L21 n) := rfl
theorem wl_X4_years_56_0 (k : Int32 → Wd → Prop) (L21 : Wd → Nat → Int32 → Int32 → Prop) : wl_X4_years_56 k L21 0 = fun _ _ _ _ _ => False := rfl
def wb_X4_years_21 (k : Int32 → Wd → Prop) (L21 : Wd → Nat → Int32 → Int32 → Prop) (w : Wd) (a0 : Nat) (l1 : Int32) (l2 : Int32) : Prop :=
    if l1 ≤ l2 then (
      wgG w (some a0) [24] 401 (fun v3 =>
      wld w v3 0 91 (fun v4 =>
      k v4 w))
    ) else (
      wob w a0 [24] ∧
      wp_X4_carries w a0 (fun v5 w6 =>
      wgG w6 (some a0) [24] 401 (fun v7 =>
      wgG w6 (some a0) [24] 401 (fun v8 =>
      wld w6 v8 0 91 (fun v9 =>
      wst w6 v7 0 92 v9 (fun w10 =>
      wgG w10 (some a0) [24] 401 (fun v11 =>
      wst w10 v11 0 91 v5 (fun w12 =>
      wl_X4_years_56 k L21 FU w12 a0 l1 l2 0)))))))
    )
def wl_X4_years_21 (k : Int32 → Wd → Prop) (n : Nat) : Wd → Nat → Int32 → Int32 → Prop := Nat.rec (motive := fun _ => Wd → Nat → Int32 → Int32 → Prop) (fun _ _ _ _ => False) (fun _ L => wb_X4_years_21 k L) n
theorem wl_X4_years_21_s (k : Int32 → Wd → Prop) (n : Nat) : wl_X4_years_21 k (n + 1) = wb_X4_years_21 k (wl_X4_years_21 k n) := rfl
theorem wl_X4_years_21_0 (k : Int32 → Wd → Prop) : wl_X4_years_21 k 0 = fun _ _ _ _ => False := rfl
def wp_X4_years (w : Wd) (a0 : Nat) (a1 : Int32) (k : Int32 → Wd → Prop) : Prop :=
  wp_X4_isIn w (a1.toInt64) 1 60 (fun v1 w2 =>
  if v1 = 0 then (
    wob w2 a0 [24] ∧
    wp_X4_refuse w2 a0 (-2) (fun v26 w27 =>
    k v26 w27)
  ) else (
    wl_X4_years_21 k FU w2 a0 a1 0
  ))
def wp_X4_seed (w : Wd) (a0 : Nat) (a1 : Int32) (k : Int32 → Wd → Prop) : Prop :=
  wgG w (some a0) [24] 401 (fun v1 =>
  wld w v1 0 96 (fun v2 =>
  wgG w (some a0) [24] 401 (fun v3 =>
  wst w v3 0 96 a1 (fun w4 =>
  k v2 w4))))
def wp_X4_image (w : Wd) (a0 : Nat) (k : Int32 → Wd → Prop) : Prop :=
  wgG w (some a0) [24] 401 (fun v1 =>
  wgG w (some a0) [24] 402 (fun v2 =>
  wp_X4_move w v1 v2 (fun w3 =>
  wpF w3 (some a0) [24] 404 1 (fun w4 =>
  k 1 w4))))
def wb_X4_back_27 (k : Int32 → Wd → Prop) (L27 : Wd → Nat → Int32 → Prop) (w : Wd) (a0 : Nat) (l1 : Int32) : Prop :=
    if (8 : Int32) ≤ l1 then (
      k 1 w
    ) else (
      wgG w (some a0) [24] 419 (fun v5 =>
      wgG w (some a0) [24] 419 (fun v6 =>
      wld w v6 0 l1 (fun v7 =>
      wob w a0 [24] ∧
      wp_X4_many w a0 (fun v8 w9 =>
      if v7 < (10 + v8) then (
        wgG w9 (some a0) [24] 419 (fun v10 =>
        wld w9 v10 0 l1 (fun v11 =>
        wst w9 v5 0 l1 v11 (fun w12 =>
        L27 w12 a0 (l1 + 1))))
      ) else (
        wst w9 v5 0 l1 (-1) (fun w13 =>
        L27 w13 a0 (l1 + 1))
      )))))
    )
def wl_X4_back_27 (k : Int32 → Wd → Prop) (n : Nat) : Wd → Nat → Int32 → Prop := Nat.rec (motive := fun _ => Wd → Nat → Int32 → Prop) (fun _ _ _ => False) (fun _ L => wb_X4_back_27 k L) n
theorem wl_X4_back_27_s (k : Int32 → Wd → Prop) (n : Nat) : wl_X4_back_27 k (n + 1) = wb_X4_back_27 k (wl_X4_back_27 k n) := rfl
theorem wl_X4_back_27_0 (k : Int32 → Wd → Prop) : wl_X4_back_27 k 0 = fun _ _ _ => False := rfl
def wp_X4_back (w : Wd) (a0 : Nat) (k : Int32 → Wd → Prop) : Prop :=
  wgF w (some a0) [24] 404 (fun v1 =>
  if v1 = 0 then (
    wob w a0 [24] ∧
    wp_X4_refuse w a0 (-5) (fun v14 w15 =>
    k v14 w15)
  ) else (
    wgG w (some a0) [24] 402 (fun v2 =>
    wgG w (some a0) [24] 401 (fun v3 =>
    wp_X4_move w v2 v3 (fun w4 =>
    wl_X4_back_27 k FU w4 a0 0)))
  ))
def wb_X4_status_103 (k : Int32 → Wd → Prop) (L103 : Wd → Nat → Int32 → Int32 → Prop) (w : Wd) (a0 : Nat) (l2 : Int32) (l3 : Int32) : Prop :=
    if (49 : Int32) ≤ l3 then (
      k l2 w
    ) else (
      wgG w (some a0) [24] 401 (fun v13 =>
      wld w v13 0 (40 + l3) (fun v14 =>
      L103 w a0 (l2 + v14) (l3 + 1)))
    )
def wl_X4_status_103 (k : Int32 → Wd → Prop) (n : Nat) : Wd → Nat → Int32 → Int32 → Prop := Nat.rec (motive := fun _ => Wd → Nat → Int32 → Int32 → Prop) (fun _ _ _ _ => False) (fun _ L => wb_X4_status_103 k L) n
theorem wl_X4_status_103_s (k : Int32 → Wd → Prop) (n : Nat) : wl_X4_status_103 k (n + 1) = wb_X4_status_103 k (wl_X4_status_103 k n) := rfl
theorem wl_X4_status_103_0 (k : Int32 → Wd → Prop) : wl_X4_status_103 k 0 = fun _ _ _ _ => False := rfl
def wb_X4_status_157 (k : Int32 → Wd → Prop) (L157 : Wd → Nat → Int32 → Int32 → Prop) (w : Wd) (a0 : Nat) (l2 : Int32) (l3 : Int32) : Prop :=
    if (8 : Int32) ≤ l3 then (
      k l2 w
    ) else (
      wgG w (some a0) [24] 419 (fun v22 =>
      wld w v22 0 l3 (fun v23 =>
      if v23 = (-1) then (
        L157 w a0 (l2 + 0) (l3 + 1)
      ) else (
        L157 w a0 (l2 + 1) (l3 + 1)
      )))
    )
def wl_X4_status_157 (k : Int32 → Wd → Prop) (n : Nat) : Wd → Nat → Int32 → Int32 → Prop := Nat.rec (motive := fun _ => Wd → Nat → Int32 → Int32 → Prop) (fun _ _ _ _ => False) (fun _ L => wb_X4_status_157 k L) n
theorem wl_X4_status_157_s (k : Int32 → Wd → Prop) (n : Nat) : wl_X4_status_157 k (n + 1) = wb_X4_status_157 k (wl_X4_status_157 k n) := rfl
theorem wl_X4_status_157_0 (k : Int32 → Wd → Prop) : wl_X4_status_157 k 0 = fun _ _ _ _ => False := rfl
def wp_X4_status (w : Wd) (a0 : Nat) (a1 : Int32) (k : Int32 → Wd → Prop) : Prop :=
  wp_X4_isIn w (a1.toInt64) 12 16 (fun v1 w2 =>
  if v1 = 0 then (
    if a1 = 0 then (
      wob w2 a0 [24] ∧
      wp_X4_many w2 a0 (fun v3 w4 =>
      k v3 w4)
    ) else (
    if a1 = 1 then (
      wgG w2 (some a0) [24] 401 (fun v5 =>
      wld w2 v5 0 ((90 + a1) - 1) (fun v6 =>
      k v6 w2))
    ) else (
    if a1 = 2 then (
      wgG w2 (some a0) [24] 401 (fun v7 =>
      wld w2 v7 0 ((90 + a1) - 1) (fun v8 =>
      k v8 w2))
    ) else (
    if a1 = 3 then (
      wgG w2 (some a0) [24] 401 (fun v9 =>
      wld w2 v9 0 ((90 + a1) - 1) (fun v10 =>
      k v10 w2))
    ) else (
    if a1 = 4 then (
      wgG w2 (some a0) [24] 401 (fun v11 =>
      wld w2 v11 0 ((90 + a1) - 1) (fun v12 =>
      k v12 w2))
    ) else (
    if a1 = 5 then (
      wl_X4_status_103 k FU w2 a0 0 0
    ) else (
    if a1 = 6 then (
      wgG w2 (some a0) [24] 401 (fun v15 =>
      wld w2 v15 0 ((94 + a1) - 6) (fun v16 =>
      k v16 w2))
    ) else (
    if a1 = 7 then (
      wgG w2 (some a0) [24] 401 (fun v17 =>
      wld w2 v17 0 ((94 + a1) - 6) (fun v18 =>
      k v18 w2))
    ) else (
    if a1 = 8 then (
      wgF w2 (some a0) [24] 406 (fun v19 =>
      k v19 w2)
    ) else (
    if a1 = 9 then (
      wgG w2 (some a0) [24] 401 (fun v20 =>
      wld w2 v20 0 96 (fun v21 =>
      k v21 w2))
    ) else (
    if a1 = 10 then (
      wl_X4_status_157 k FU w2 a0 0 0
    ) else (
      k (-1) w2
    )))))))))))
  ) else (
    wgG w2 (some a0) [24] 400 (fun v24 =>
    wld w2 v24 0 (a1 - 10) (fun v25 =>
    k v25 w2))
  ))
