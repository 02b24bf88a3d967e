/-! ===== System.arraycopy over typed worlds ===== -/
def sCp (w : Wd) (b a sp dp n : Nat) : Wd := wmk (wT w) (wF w) (wG w) (fun q j => if q = a then va_cpy (wI w b) (wI w a) sp dp n j else wI w q j) (fun q j => if q = a then va_cpy (wL w b) (wL w a) sp dp n j else wL w q j) (fun q j => if q = a then va_cpy (wQ w b) (wQ w a) sp dp n j else wQ w q j) (wz w) (wk w)
/-- what is copied fits: ints, longs; references to objects of classes cs -/
def wfit (w : Wd) (b t sp n : Nat) (cs : List Nat) : Prop := ∀ i : Nat, i < n → if t < 6 then fits (waty t) (wav w b t (sp + i)) = true else ∀ x, wQ w b (sp + i) = some x → wob w x cs
def wcp (w : Wd) (rs : Option Nat) (sp : Int32) (rd : Option Nat) (dp n : Int32) (T : Nat) (cs : List Nat) (K : Wd → Prop) : Prop := match rs, rd with
  | some b, some a => match wT w b, wT w a with
    | some t, some u => (t.1 = T ∧ u.1 = T ∧ t.2.2 = true ∧ u.2.2 = true) ∧ (¬ sp < 0 ∧ ¬ dp < 0 ∧ ¬ n < 0 ∧ sp.toNatClampNeg + n.toNatClampNeg ≤ t.2.1 ∧ dp.toNatClampNeg + n.toNatClampNeg ≤ u.2.1) ∧ wfit w b T sp.toNatClampNeg n.toNatClampNeg cs ∧ K (sCp w b a sp.toNatClampNeg dp.toNatClampNeg n.toNatClampNeg)
    | _, _ => False
  | _, _ => False
section WCPY
variable {p : Program} {l : Launch} {e : Env} {R : Room} {s : State} {m : MethodId} {args : Array Value} {below : List Frame} {meth : Method} {c : Code} {H : Heap} {locs : List Loc} {cells slots : Nat} {Q : State → Prop}
variable {cc : ByteArray} {pc nL : Nat} {ls : Array Slot} {rest st0 : List Value} {Z : wZ} {A : Nat → Prop} {w : Wd} {r : Option Nat} {ret : Option FieldType} {own mnm : String}
theorem wav_cp {b a sp dp n t j : Nat} : wav (sCp w b a sp dp n) a t j = va_cpy (wav w b t) (wav w a t) sp dp n j := by
  unfold wav sCp va_cpy
  simp only [wI_mk, wL_mk, wQ_mk, if_true]
  by_cases h : dp ≤ j ∧ j < dp + n
  · simp only [h, and_self, if_true]
  · simp only [h, if_false]
theorem wtys_at {t : Nat} (ht : t < 9) : (wtys Z)[t]? = some (Z.2.1 t, waty t) := by
  unfold wtys
  rw [List.getElem?_map, List.getElem?_range ht]
  rfl
theorem r_acopy (C : wC p l s m args meth c cc nL ret own mnm Z A) (hS : wS Z A s w H locs) {rs rd : Option Nat} {sp dp n : Int32} {TT : Nat} {cs : List Nat} {K : Wd → Prop} {idx : Nat} (h : wcp w rs sp rd dp n TT cs K) (hT : TT < 6 ∨ (TT = 6 ∧ ∀ t ∈ cs, 20 ≤ t ∧ ∀ r : vw_C, wcl[t - 20]? = some r → r.1 = "LeftIsAgreedOn$Voter" ∨ Cond.castable r.1 "LeftIsAgreedOn$Voter" ∈ wNx)) (hlink : Cond.methodLink own idx arraycopyName ∈ lw_all) (hnat : Cond.native arraycopyName ∈ lw_all) (hstat : Cond.static arraycopyName ∈ lw_all) (hini : Cond.initialized "java/lang/System" ∈ lw_all)
    (hR : 1 ≤ R.frames ∧ 8 + (nativeFrameWords "java/lang/System" "arraycopy" 5 + 11) ≤ R.locals) (hl : ls.size = nL) (hW : (rest.map fun v => v.category).sum ≤ 8) (hdg : decode cc pc = .ok (.invokestatic idx, 3))
    (kn : ∀ (w' : Wd) (H : Heap) (locs : List Loc), K w' → wS Z A s w' H locs → W p l e R s m args below meth c H locs cells slots Q (F0 m (pc + 3) ls rest)) : W p l e R s m args below meth c H locs cells slots Q (F0 m pc ls (.int n :: .int dp :: va_rf rd :: .int sp :: va_rf rs :: rest)) := by
  have nn : ∀ z : Int32, ¬ z < 0 → z.toInt = (z.toNatClampNeg : Int) := by
    intro z hz
    have hz0 : (0 : Int) ≤ z.toInt := by
      have := Int32.not_lt.mp hz
      simpa using Int32.le_iff_toInt_le.mp this
    show z.toInt = ((z.toInt.toNat : Nat) : Int)
    omega
  unfold wcp at h
  split at h
  · rename_i b a
    split at h
    · rename_i t u hb ha
      obtain ⟨⟨e1, e2, e3, e4⟩, ⟨h1, h2, h3, h4, h5⟩, hfit, hK⟩ := h
      obtain ⟨t9, n0, tb⟩ := t
      obtain ⟨ut, n1, ub⟩ := u
      dsimp only at e1 e2 e3 e4 h4 h5
      subst e1; subst e2; subst e3; subst e4
      have hT9 : ut < 9 := by omega
      have hat := hS.1.1 a _ ha
      obtain ⟨cd, a1, a2, a3, a4, a5, a6, a7⟩ := hat.arr (show ut < 20 by omega)
      obtain ⟨cS, b1, b2, b3, b4, b5, b6, b7⟩ := (hS.1.1 b _ hb).arr (show ut < 20 by omega)
      have ed := (a7 rfl).2.2.2
      have es := (b7 rfl).2.2.2
      dsimp only at ed es a1 a2 a5
      have hA9 := C.hK.2 ut _ (wtys_at hT9)
      obtain ⟨-, k0, hk0, cm0, hkk0⟩ := hA9.1 n0 (fun j => wav w b ut j)
      obtain ⟨hio, k1, hk1, cm1, hkk1⟩ := hA9.1 n1 (fun j => wav w a ut j)
      rw [ed] at a1 a3
      rw [es] at b1 b3
      intro T hTT X
      obtain ⟨vm', X', step⟩ := X.arraycopy C.hx C.ow (C.hts _ hlink) (C.hts _ hnat) (C.hts _ hstat) (C.hts _ hini) (src := b) (dst := a) (cs := arrV (Z.2.1 ut) n0 (fun j => wav w b ut j)) (cd := arrV (Z.2.1 ut) n1 (fun j => wav w a ut j)) (srcPos := sp) (destPos := dp) (n := n) (by rw [hTT]; exact b1) (by rw [hTT]; exact a1)
        (fun _ h => by cases h) (fun _ h => by cases h) b3 a3 hk0 hk1 hkk0 hkk1 (by cases refKind (waty ut) <;> simp) h1 h2 h3
        (by rw [nn sp h1, nn n h3, arrV_size]; omega)
        (by rw [nn dp h2, nn n h3, arrV_size]; omega)
        (fun vm₁ hal i hi => by
          have hf := hfit i hi
          rw [Array.getD_eq_getD_getElem?, arrV_read _ _ (by omega)]
          show fits (waty ut) (wav w b ut (sp.toNatClampNeg + i)) = true ∧ (T.setVm vm₁).takes cm1 (wav w b ut (sp.toNatClampNeg + i))
          rcases hT with hp | ⟨rfl, hcs⟩
          · rw [if_pos hp] at hf
            refine ⟨hf, State.takes_of_prim _ _ ?_ hf⟩
            match ut, hp with
            | 0, _ => rfl
            | 1, _ => rfl
            | 2, _ => rfl
            | 3, _ => rfl
            | 4, _ => rfl
            | 5, _ => rfl
            | k + 6, hp => exact absurd hp (by omega)
          · rw [if_neg (by decide)] at hf
            have ev : wav w b 6 (sp.toNatClampNeg + i) = va_rf (wQ w b (sp.toNatClampNeg + i)) := rfl
            rw [ev]
            cases hx : wQ w b (sp.toNatClampNeg + i) with
            | none => exact ⟨rfl, trivial⟩
            | some x =>
              refine ⟨rfl, ?_⟩
              obtain ⟨ty, hty, htc⟩ := wob_spec (hf x hx)
              obtain ⟨h20, hcl⟩ := hcs _ htc
              obtain ⟨cv, rv, hrv, g1, g2, g3, g4, g5, g6⟩ := (hS.1.1 x ty hty).obj h20
              obtain ⟨kA, comp, c1, c2, c3, -⟩ := hA9.2
              cases hk1.symm.trans c1
              have ecm : cm1 = comp := by
                rw [hkk1] at c2
                injection c2
              subst ecm
              obtain ⟨-, hfc, kC, hkC, hkind⟩ := C.hK.1 _ _ hrv
              have hasg : s.vm.assignable cv.cls cm1 = true := by
                rw [g4]
                rcases hcl rv hrv with q | q
                · rw [q] at hfc
                  cases hfc.symm.trans c3
                  exact va_assign ⟨hfc, kC, hkC, hkind⟩
                · exact vb_asgC (C.hKS.2.1 _ q) _ _ c3 hfc
              obtain ⟨ks, hks, -⟩ := Vm.findClass_spec c3
              obtain ⟨kC', hkC', -⟩ := hal.2.2 _ _ hkC
              obtain ⟨ks', hks', -⟩ := hal.2.2 _ _ hks
              refine ⟨cv, (by show T.heap[x]? = some cv; rw [hTT]; exact g1), (fun k z => by rw [z] at g2; cases g2), ⟨kC', by rw [g4]; exact hkC'⟩, ⟨ks', hks'⟩, ?_⟩
              show vm₁.assignable cv.cls cm1 = true
              rw [hal.assignable]
              exact hasg)
        (g := F0 m pc ls (.int n :: .int dp :: .ref a :: .int sp :: .ref b :: rest)) rfl (hl.trans C.ml.symm) (rest := rest) rfl (by rw [C.hb]; exact hdg) hR.1 (by show 2 * 0 + _ + _ ≤ _; omega)
      have ec : copied (arrV (Z.2.1 ut) n0 (fun j => wav w b ut j)) (arrV (Z.2.1 ut) n1 (fun j => wav w a ut j)) sp dp n = arrV (Z.2.1 ut) n1 (fun j => wav (sCp w b a sp.toNatClampNeg dp.toNatClampNeg n.toNatClampNeg) a ut j) := by
        have e9 := va_copied (fun z : Value => z) (Z.2.1 ut) (Z.2.1 ut) (n0 := n0) (n1 := n1) (sp := sp.toNatClampNeg) (dp := dp.toNatClampNeg) (n := n.toNatClampNeg) (wav w b ut) (wav w a ut) h4
        refine e9.trans ?_
        congr 1
        funext j
        exact wav_cp.symm
      rw [ec] at X' step
      generalize hw' : sCp w b a sp.toNatClampNeg dp.toNatClampNeg n.toNatClampNeg = w' at *
      have hla : a < H.size := (Array.getElem?_eq_some_iff.mp a1).1
      have hheap : ((T.setVm vm').setCell a (arrV (Z.2.1 ut) n1 (fun j => wav w' a ut j))).heap = H.setIfInBounds a (arrV (Z.2.1 ut) n1 (fun j => wav w' a ut j)) := by rw [← hTT]; rfl
      have oq : ∀ q : Nat, q ≠ a → (H.setIfInBounds a (arrV (Z.2.1 ut) n1 (fun j => wav w' a ut j)))[q]? = H[q]? := fun q hq => by simp [Array.getElem?_setIfInBounds, Ne.symm hq]
      have hAa : A a := hS.1.2 a _ _ ha
      have hT' : wT w' = wT w := by rw [← hw']; rfl
      obtain ⟨t, s1, s2⟩ := kn w' _ _ hK ⟨⟨fun q tq htq => by
          rw [hT'] at htq
          by_cases hqa : q = a
          · subst hqa
            cases ha.symm.trans htq
            unfold wat
            rw [if_pos (show ut < 20 by omega)]
            refine ⟨_, (show (H.setIfInBounds q _)[q]? = some _ by simp [Array.getElem?_setIfInBounds, hla]), hA9.1 n1 _, (fun z => by cases z), by rw [arrV_size]; exact Nat.le_refl _, ?_, fun j hj => arrV_read _ _ hj, fun _ => ⟨rfl, rfl, arrV_size _ _ _, rfl⟩⟩
            rw [arrV_size]
          · refine (hS.1.1 q tq htq).kept (oq q hqa) (fun k => by rw [← hw']; rfl) (fun k => by rw [← hw']; rfl) (fun k => ?_) (fun k => ?_) (fun k => ?_) <;> (rw [← hw']; exact if_neg hqa), fun q c n hq => hS.1.2 q c n (by rw [← hT']; exact hq)⟩,
        ⟨by rw [← hw']; show wz w = _; simp; exact hS.2.1.1, by rw [← hw']; exact hS.2.1.2⟩,
        ⟨by simp; exact hS.2.2.1, fun q g1 g2 => by
          rw [oq q (fun e => g2 (by rw [e]; exact hAa))]
          exact hS.2.2.2.1 q g1 g2, fun q hq => by
          rcases List.mem_append.mp hq with h | h
          · exact hS.2.2.2.2 q h
          · obtain ⟨z, -, hz⟩ := List.mem_map.mp h
            rw [← hz]
            exact hAa⟩⟩ _ hheap X'
      exact ⟨t, step t s1, s2⟩
    · exact h.elim
  · exact h.elim
end WCPY
