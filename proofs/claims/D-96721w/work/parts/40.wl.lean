/-! ===== worlds: what a read behind a write gives; frames (printed by prog/gen_wl.py) ===== -/
theorem wT_sF (w : Wd) (a k : Nat) (v : Int32) : wT (sF w a k v) = wT w := rfl
theorem wF_sF (w : Wd) (a k : Nat) (v : Int32) (q j : Nat) : wF (sF w a k v) q j = if q = a ∧ j = k then v else wF w q j := rfl
theorem wG_sF (w : Wd) (a k : Nat) (v : Int32) : wG (sF w a k v) = wG w := rfl
theorem wI_sF (w : Wd) (a k : Nat) (v : Int32) : wI (sF w a k v) = wI w := rfl
theorem wL_sF (w : Wd) (a k : Nat) (v : Int32) : wL (sF w a k v) = wL w := rfl
theorem wQ_sF (w : Wd) (a k : Nat) (v : Int32) : wQ (sF w a k v) = wQ w := rfl
theorem wz_sF (w : Wd) (a k : Nat) (v : Int32) : wz (sF w a k v) = wz w := rfl
theorem wk_sF (w : Wd) (a k : Nat) (v : Int32) : wk (sF w a k v) = wk w := rfl
theorem wT_sG (w : Wd) (a k : Nat) (v : Option Nat) : wT (sG w a k v) = wT w := rfl
theorem wF_sG (w : Wd) (a k : Nat) (v : Option Nat) : wF (sG w a k v) = wF w := rfl
theorem wG_sG (w : Wd) (a k : Nat) (v : Option Nat) (q j : Nat) : wG (sG w a k v) q j = if q = a ∧ j = k then v else wG w q j := rfl
theorem wI_sG (w : Wd) (a k : Nat) (v : Option Nat) : wI (sG w a k v) = wI w := rfl
theorem wL_sG (w : Wd) (a k : Nat) (v : Option Nat) : wL (sG w a k v) = wL w := rfl
theorem wQ_sG (w : Wd) (a k : Nat) (v : Option Nat) : wQ (sG w a k v) = wQ w := rfl
theorem wz_sG (w : Wd) (a k : Nat) (v : Option Nat) : wz (sG w a k v) = wz w := rfl
theorem wk_sG (w : Wd) (a k : Nat) (v : Option Nat) : wk (sG w a k v) = wk w := rfl
theorem wT_sI (w : Wd) (a k : Nat) (v : Int32) : wT (sI w a k v) = wT w := rfl
theorem wF_sI (w : Wd) (a k : Nat) (v : Int32) : wF (sI w a k v) = wF w := rfl
theorem wG_sI (w : Wd) (a k : Nat) (v : Int32) : wG (sI w a k v) = wG w := rfl
theorem wI_sI (w : Wd) (a k : Nat) (v : Int32) (q j : Nat) : wI (sI w a k v) q j = if q = a ∧ j = k then v else wI w q j := rfl
theorem wL_sI (w : Wd) (a k : Nat) (v : Int32) : wL (sI w a k v) = wL w := rfl
theorem wQ_sI (w : Wd) (a k : Nat) (v : Int32) : wQ (sI w a k v) = wQ w := rfl
theorem wz_sI (w : Wd) (a k : Nat) (v : Int32) : wz (sI w a k v) = wz w := rfl
theorem wk_sI (w : Wd) (a k : Nat) (v : Int32) : wk (sI w a k v) = wk w := rfl
theorem wT_sL (w : Wd) (a k : Nat) (v : Int64) : wT (sL w a k v) = wT w := rfl
theorem wF_sL (w : Wd) (a k : Nat) (v : Int64) : wF (sL w a k v) = wF w := rfl
theorem wG_sL (w : Wd) (a k : Nat) (v : Int64) : wG (sL w a k v) = wG w := rfl
theorem wI_sL (w : Wd) (a k : Nat) (v : Int64) : wI (sL w a k v) = wI w := rfl
theorem wL_sL (w : Wd) (a k : Nat) (v : Int64) (q j : Nat) : wL (sL w a k v) q j = if q = a ∧ j = k then v else wL w q j := rfl
theorem wQ_sL (w : Wd) (a k : Nat) (v : Int64) : wQ (sL w a k v) = wQ w := rfl
theorem wz_sL (w : Wd) (a k : Nat) (v : Int64) : wz (sL w a k v) = wz w := rfl
theorem wk_sL (w : Wd) (a k : Nat) (v : Int64) : wk (sL w a k v) = wk w := rfl
theorem wT_sQ (w : Wd) (a k : Nat) (v : Option Nat) : wT (sQ w a k v) = wT w := rfl
theorem wF_sQ (w : Wd) (a k : Nat) (v : Option Nat) : wF (sQ w a k v) = wF w := rfl
theorem wG_sQ (w : Wd) (a k : Nat) (v : Option Nat) : wG (sQ w a k v) = wG w := rfl
theorem wI_sQ (w : Wd) (a k : Nat) (v : Option Nat) : wI (sQ w a k v) = wI w := rfl
theorem wL_sQ (w : Wd) (a k : Nat) (v : Option Nat) : wL (sQ w a k v) = wL w := rfl
theorem wQ_sQ (w : Wd) (a k : Nat) (v : Option Nat) (q j : Nat) : wQ (sQ w a k v) q j = if q = a ∧ j = k then v else wQ w q j := rfl
theorem wz_sQ (w : Wd) (a k : Nat) (v : Option Nat) : wz (sQ w a k v) = wz w := rfl
theorem wk_sQ (w : Wd) (a k : Nat) (v : Option Nat) : wk (sQ w a k v) = wk w := rfl
theorem wT_sZ (w : Wd) (z : Nat) : wT (sZ w z) = wT w := rfl
theorem wF_sZ (w : Wd) (z : Nat) : wF (sZ w z) = wF w := rfl
theorem wG_sZ (w : Wd) (z : Nat) : wG (sZ w z) = wG w := rfl
theorem wI_sZ (w : Wd) (z : Nat) : wI (sZ w z) = wI w := rfl
theorem wL_sZ (w : Wd) (z : Nat) : wL (sZ w z) = wL w := rfl
theorem wQ_sZ (w : Wd) (z : Nat) : wQ (sZ w z) = wQ w := rfl
theorem wz_sZ (w : Wd) (z : Nat) : wz (sZ w z) = z := rfl
theorem wk_sZ (w : Wd) (z : Nat) : wk (sZ w z) = wk w := rfl
theorem wT_nw (w : Wd) (t : wTy) (q : Nat) : wT (nw w t) q = if q = wz w then some t else wT w q := rfl
theorem wF_nw (w : Wd) (t : wTy) (q j : Nat) : wF (nw w t) q j = if q = wz w then 0 else wF w q j := rfl
theorem wG_nw (w : Wd) (t : wTy) (q j : Nat) : wG (nw w t) q j = if q = wz w then none else wG w q j := rfl
theorem wI_nw (w : Wd) (t : wTy) (q j : Nat) : wI (nw w t) q j = if q = wz w then 0 else wI w q j := rfl
theorem wL_nw (w : Wd) (t : wTy) (q j : Nat) : wL (nw w t) q j = if q = wz w then 0 else wL w q j := rfl
theorem wQ_nw (w : Wd) (t : wTy) (q j : Nat) : wQ (nw w t) q j = if q = wz w then none else wQ w q j := rfl
theorem wz_nw (w : Wd) (t : wTy) : wz (nw w t) = wz w + 1 := rfl
theorem wk_nw (w : Wd) (t : wTy) : wk (nw w t) = wk w := rfl
theorem wT_sIc (w : Wd) (a : Nat) (f : Nat → Int32) : wT (sIc w a f) = wT w := rfl
theorem wF_sIc (w : Wd) (a : Nat) (f : Nat → Int32) : wF (sIc w a f) = wF w := rfl
theorem wG_sIc (w : Wd) (a : Nat) (f : Nat → Int32) : wG (sIc w a f) = wG w := rfl
theorem wI_sIc (w : Wd) (a : Nat) (f : Nat → Int32) (q j : Nat) : wI (sIc w a f) q j = if q = a then f j else wI w q j := rfl
theorem wL_sIc (w : Wd) (a : Nat) (f : Nat → Int32) : wL (sIc w a f) = wL w := rfl
theorem wQ_sIc (w : Wd) (a : Nat) (f : Nat → Int32) : wQ (sIc w a f) = wQ w := rfl
theorem wz_sIc (w : Wd) (a : Nat) (f : Nat → Int32) : wz (sIc w a f) = wz w := rfl
theorem wk_sIc (w : Wd) (a : Nat) (f : Nat → Int32) : wk (sIc w a f) = wk w := rfl
theorem wT_sLc (w : Wd) (a : Nat) (f : Nat → Int64) : wT (sLc w a f) = wT w := rfl
theorem wF_sLc (w : Wd) (a : Nat) (f : Nat → Int64) : wF (sLc w a f) = wF w := rfl
theorem wG_sLc (w : Wd) (a : Nat) (f : Nat → Int64) : wG (sLc w a f) = wG w := rfl
theorem wI_sLc (w : Wd) (a : Nat) (f : Nat → Int64) : wI (sLc w a f) = wI w := rfl
theorem wL_sLc (w : Wd) (a : Nat) (f : Nat → Int64) (q j : Nat) : wL (sLc w a f) q j = if q = a then f j else wL w q j := rfl
theorem wQ_sLc (w : Wd) (a : Nat) (f : Nat → Int64) : wQ (sLc w a f) = wQ w := rfl
theorem wz_sLc (w : Wd) (a : Nat) (f : Nat → Int64) : wz (sLc w a f) = wz w := rfl
theorem wk_sLc (w : Wd) (a : Nat) (f : Nat → Int64) : wk (sLc w a f) = wk w := rfl
theorem wT_sQc (w : Wd) (a : Nat) (f : Nat → Option Nat) : wT (sQc w a f) = wT w := rfl
theorem wF_sQc (w : Wd) (a : Nat) (f : Nat → Option Nat) : wF (sQc w a f) = wF w := rfl
theorem wG_sQc (w : Wd) (a : Nat) (f : Nat → Option Nat) : wG (sQc w a f) = wG w := rfl
theorem wI_sQc (w : Wd) (a : Nat) (f : Nat → Option Nat) : wI (sQc w a f) = wI w := rfl
theorem wL_sQc (w : Wd) (a : Nat) (f : Nat → Option Nat) : wL (sQc w a f) = wL w := rfl
theorem wQ_sQc (w : Wd) (a : Nat) (f : Nat → Option Nat) (q j : Nat) : wQ (sQc w a f) q j = if q = a then f j else wQ w q j := rfl
theorem wz_sQc (w : Wd) (a : Nat) (f : Nat → Option Nat) : wz (sQc w a f) = wz w := rfl
theorem wk_sQc (w : Wd) (a : Nat) (f : Nat → Option Nat) : wk (sQc w a f) = wk w := rfl
theorem wT_sCp (w : Wd) (b a sp dp n : Nat) : wT (sCp w b a sp dp n) = wT w := rfl
theorem wF_sCp (w : Wd) (b a sp dp n : Nat) : wF (sCp w b a sp dp n) = wF w := rfl
theorem wG_sCp (w : Wd) (b a sp dp n : Nat) : wG (sCp w b a sp dp n) = wG w := rfl
theorem wI_sCp (w : Wd) (b a sp dp n : Nat) (q j : Nat) : wI (sCp w b a sp dp n) q j = if q = a then va_cpy (wI w b) (wI w a) sp dp n j else wI w q j := rfl
theorem wL_sCp (w : Wd) (b a sp dp n : Nat) (q j : Nat) : wL (sCp w b a sp dp n) q j = if q = a then va_cpy (wL w b) (wL w a) sp dp n j else wL w q j := rfl
theorem wQ_sCp (w : Wd) (b a sp dp n : Nat) (q j : Nat) : wQ (sCp w b a sp dp n) q j = if q = a then va_cpy (wQ w b) (wQ w a) sp dp n j else wQ w q j := rfl
theorem wz_sCp (w : Wd) (b a sp dp n : Nat) : wz (sCp w b a sp dp n) = wz w := rfl
theorem wk_sCp (w : Wd) (b a sp dp n : Nat) : wk (sCp w b a sp dp n) = wk w := rfl
/-- what a method leaves as it was: cells below the old end, but those of P (key 9999: an array's contents) -/
def fr (P : Nat → Nat → Prop) (w w' : Wd) : Prop := (wz w ≤ wz w' ∧ wk w' = wk w) ∧ ∀ q, q < wz w → wT w' q = wT w q ∧ (∀ k, ¬ P q k → wF w' q k = wF w q k ∧ wG w' q k = wG w q k) ∧ (¬ P q 9999 → wI w' q = wI w q ∧ wL w' q = wL w q ∧ wQ w' q = wQ w q)
theorem fr.refl (P : Nat → Nat → Prop) (w : Wd) : fr P w w := ⟨⟨Nat.le_refl _, rfl⟩, fun _ _ => ⟨rfl, fun _ _ => ⟨rfl, rfl⟩, fun _ => ⟨rfl, rfl, rfl⟩⟩⟩
theorem fr.trans {P : Nat → Nat → Prop} {u v w : Wd} (h : fr P u v) (h' : fr P v w) : fr P u w := by
  refine ⟨⟨Nat.le_trans h.1.1 h'.1.1, h'.1.2.trans h.1.2⟩, fun q hq => ?_⟩
  obtain ⟨a1, a2, a3⟩ := h.2 q hq
  obtain ⟨b1, b2, b3⟩ := h'.2 q (Nat.lt_of_lt_of_le hq h.1.1)
  exact ⟨b1.trans a1, fun k hk => ⟨(b2 k hk).1.trans (a2 k hk).1, (b2 k hk).2.trans (a2 k hk).2⟩, fun hk => ⟨(b3 hk).1.trans (a3 hk).1, (b3 hk).2.1.trans (a3 hk).2.1, (b3 hk).2.2.trans (a3 hk).2.2⟩⟩
/-- P' may name more, and cells beyond the old end -/
theorem fr.mono {P P' : Nat → Nat → Prop} {w w' : Wd} (h : fr P w w') (hP : ∀ q k, q < wz w → P q k → P' q k) : fr P' w w' := by
  refine ⟨h.1, fun q hq => ?_⟩
  obtain ⟨a1, a2, a3⟩ := h.2 q hq
  exact ⟨a1, fun k hk => a2 k (fun hp => hk (hP q k hq hp)), fun hk => a3 (fun hp => hk (hP q 9999 hq hp))⟩
theorem fr.T {P : Nat → Nat → Prop} {w w' : Wd} (h : fr P w w') {q : Nat} {t : wTy} (hq : q < wz w) (ht : wT w q = some t) : wT w' q = some t := (h.2 q hq).1.trans ht
theorem fr.z {P : Nat → Nat → Prop} {w w' : Wd} (h : fr P w w') : wz w ≤ wz w' := h.1.1
theorem fr.F {P : Nat → Nat → Prop} {w w' : Wd} (h : fr P w w') {q k : Nat} (hq : q < wz w) (hk : ¬ P q k) : wF w' q k = wF w q k := ((h.2 q hq).2.1 k hk).1
theorem fr.G {P : Nat → Nat → Prop} {w w' : Wd} (h : fr P w w') {q k : Nat} (hq : q < wz w) (hk : ¬ P q k) : wG w' q k = wG w q k := ((h.2 q hq).2.1 k hk).2
theorem fr.I {P : Nat → Nat → Prop} {w w' : Wd} (h : fr P w w') {q : Nat} (hq : q < wz w) (hk : ¬ P q 9999) : wI w' q = wI w q := ((h.2 q hq).2.2 hk).1
theorem fr.L {P : Nat → Nat → Prop} {w w' : Wd} (h : fr P w w') {q : Nat} (hq : q < wz w) (hk : ¬ P q 9999) : wL w' q = wL w q := ((h.2 q hq).2.2 hk).2.1
theorem fr.Q {P : Nat → Nat → Prop} {w w' : Wd} (h : fr P w w') {q : Nat} (hq : q < wz w) (hk : ¬ P q 9999) : wQ w' q = wQ w q := ((h.2 q hq).2.2 hk).2.2
section FRP
variable {P : Nat → Nat → Prop} {u w : Wd}
theorem fr.sF (h : fr P u w) {a k : Nat} {v : Int32} (hP : a < wz u → P a k) : fr P u (sF w a k v) :=
  ⟨h.1, fun q hq => ⟨(h.2 q hq).1, fun j hj => ⟨(if_neg (fun e : q = a ∧ j = k => hj (by obtain ⟨rfl, rfl⟩ := e; exact hP hq))).trans ((h.2 q hq).2.1 j hj).1, ((h.2 q hq).2.1 j hj).2⟩, (h.2 q hq).2.2⟩⟩
theorem fr.sG (h : fr P u w) {a k : Nat} {v : Option Nat} (hP : a < wz u → P a k) : fr P u (sG w a k v) :=
  ⟨h.1, fun q hq => ⟨(h.2 q hq).1, fun j hj => ⟨((h.2 q hq).2.1 j hj).1, (if_neg (fun e : q = a ∧ j = k => hj (by obtain ⟨rfl, rfl⟩ := e; exact hP hq))).trans ((h.2 q hq).2.1 j hj).2⟩, (h.2 q hq).2.2⟩⟩
theorem fr.sI (h : fr P u w) {a k : Nat} {v : Int32} (hP : a < wz u → P a 9999) : fr P u (sI w a k v) :=
  ⟨h.1, fun q hq => ⟨(h.2 q hq).1, (h.2 q hq).2.1, fun hj => ⟨(funext fun j => if_neg (fun e : q = a ∧ j = k => hj (by obtain ⟨rfl, rfl⟩ := e; exact hP hq))).trans ((h.2 q hq).2.2 hj).1, ((h.2 q hq).2.2 hj).2⟩⟩⟩
theorem fr.sL (h : fr P u w) {a k : Nat} {v : Int64} (hP : a < wz u → P a 9999) : fr P u (sL w a k v) :=
  ⟨h.1, fun q hq => ⟨(h.2 q hq).1, (h.2 q hq).2.1, fun hj => ⟨((h.2 q hq).2.2 hj).1, (funext fun j => if_neg (fun e : q = a ∧ j = k => hj (by obtain ⟨rfl, rfl⟩ := e; exact hP hq))).trans ((h.2 q hq).2.2 hj).2.1, ((h.2 q hq).2.2 hj).2.2⟩⟩⟩
theorem fr.sQ (h : fr P u w) {a k : Nat} {v : Option Nat} (hP : a < wz u → P a 9999) : fr P u (sQ w a k v) :=
  ⟨h.1, fun q hq => ⟨(h.2 q hq).1, (h.2 q hq).2.1, fun hj => ⟨((h.2 q hq).2.2 hj).1, ((h.2 q hq).2.2 hj).2.1, (funext fun j => if_neg (fun e : q = a ∧ j = k => hj (by obtain ⟨rfl, rfl⟩ := e; exact hP hq))).trans ((h.2 q hq).2.2 hj).2.2⟩⟩⟩
theorem fr.sZ (h : fr P u w) {z : Nat} (hz : wz w ≤ z) : fr P u (sZ w z) := ⟨⟨Nat.le_trans h.1.1 hz, h.1.2⟩, h.2⟩
theorem fr.nw (h : fr P u w) {t : wTy} : fr P u (nw w t) := by
  refine ⟨⟨Nat.le_succ_of_le h.1.1, h.1.2⟩, fun q hq => ?_⟩
  have hne : ¬ q = wz w := Nat.ne_of_lt (Nat.lt_of_lt_of_le hq h.1.1)
  obtain ⟨a1, a2, a3⟩ := h.2 q hq
  exact ⟨(if_neg hne).trans a1, fun k hk => ⟨(if_neg hne).trans (a2 k hk).1, (if_neg hne).trans (a2 k hk).2⟩, fun hk => ⟨(funext fun j => if_neg hne).trans (a3 hk).1, (funext fun j => if_neg hne).trans (a3 hk).2.1, (funext fun j => if_neg hne).trans (a3 hk).2.2⟩⟩
theorem fr.sCp (h : fr P u w) {b a sp dp n : Nat} (hP : a < wz u → P a 9999) : fr P u (sCp w b a sp dp n) :=
  ⟨h.1, fun q hq => ⟨(h.2 q hq).1, (h.2 q hq).2.1, fun hj => ⟨(funext fun j => if_neg (fun e : q = a => hj (by subst e; exact hP hq))).trans ((h.2 q hq).2.2 hj).1, (funext fun j => if_neg (fun e : q = a => hj (by subst e; exact hP hq))).trans ((h.2 q hq).2.2 hj).2.1, (funext fun j => if_neg (fun e : q = a => hj (by subst e; exact hP hq))).trans ((h.2 q hq).2.2 hj).2.2⟩⟩⟩
end FRP
