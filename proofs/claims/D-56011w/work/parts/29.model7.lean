/-! THE MODEL: orders placed and cancelled -/
set_option maxRecDepth 100000
section MODEL
variable {B : Bt} {m : Nat} {ad : Nat → Nat} {sv ch ea fa th pm lm cm p0 s0 iw : Int32} {M A : Nat → Int32} {S : SS} {R : Rs}
/-- what a new order of l units wants of its trader -/
def hasS (t : Nat) (b : Bool) (p l : Nat) (T : List (Nat × Nat)) : Prop := ∃ c, T[t]? = some c ∧ if b then l * p ≤ c.1 else l ≤ c.2
/-- cash and windows within bounds -/
def boT (T : List (Nat × Nat)) : Prop := ∀ c, c ∈ T → c.1 < 2 ^ 30 ∧ c.2 < 2 ^ 30
/-- every open order has units left -/
def posO (O : List OO) : Prop := ∀ o, o ∈ O → 0 < o.2.2.2.2
theorem c_X3_trades (hB : Bs B) {t k n : Nat} {b : Bool} {o : OO} (hE : Enc M S) (ho : (sO S)[k]? = some o) (ht : t < 6) (hn : n ≤ o.2.2.2.2) (hc : hasS t b o.2.2.2.1 n (sT S)) : Tr B yX3_trades (Cond.code yX3_trades cX3_trades 8 none) (rmd 3 0 0) [.ref m, .int (nI t), .int (bI b), .int (nI k), .int (nI n)] (wM m ad sv ch ea fa th pm lm cm p0 s0 iw M) (fun r w => ∃ M', r = none ∧ w = wM m ad sv ch ea fa th pm lm cm p0 s0 iw M' ∧ Enc M' (trS t b k o n S)) nox := by
  obtain ⟨c, h1, h2⟩ := hc
  cases b with
  | true => exact Tr.po (c_X3_tradesT hB hE.2.2.2.1 ho ht hn) fun r w ⟨e1, e2⟩ => ⟨_, e1, e2, hE.trT ho ht hn fun c' h => by cases h1.symm.trans h; exact h2⟩
  | false => exact Tr.po (c_X3_tradesF hB hE.2.2.2.1 ho ht hn) fun r w ⟨e1, e2⟩ => ⟨_, e1, e2, hE.trF ho ht hn fun c' h => by cases h1.symm.trans h; exact h2⟩
theorem has_tr {t k p l n : Nat} {b : Bool} {o : OO} {S : SS} (h : hasS t b p l (sT S)) (hm : matB b p o = true) (hn : n ≤ l) : hasS t b p (l - n) (sT (trS t b k o n S)) := by
  obtain ⟨c, h1, h2⟩ := h
  cases b with
  | true =>
    have hp : o.2.2.2.1 ≤ p := by simp [matB] at hm; exact hm.2
    have h3 : n * o.2.2.2.1 ≤ n * p := Nat.mul_le_mul_left _ hp
    have h4 : (l - n) * p = l * p - n * p := Nat.sub_mul ..
    have h5 : n * p ≤ l * p := Nat.mul_le_mul_right _ hn
    have h2' : l * p ≤ c.1 := h2
    have q1 := md_at (f := (· - n * o.2.2.2.1)) (g := (· + n)) h1
    by_cases ht : o.2.1 = t
    · refine ⟨_, by show (mdT (mdT (sT S) t (· - n * o.2.2.2.1) (· + n)) o.2.1 (· + n * o.2.2.2.1) id)[t]? = _; rw [ht]; exact md_at q1, ?_⟩
      show (l - n) * p ≤ c.1 - n * o.2.2.2.1 + n * o.2.2.2.1
      omega
    · refine ⟨_, (md_off (f := (· + n * o.2.2.2.1)) (g := id) ht).trans q1, ?_⟩
      show (l - n) * p ≤ c.1 - n * o.2.2.2.1
      omega
  | false =>
    have h2' : l ≤ c.2 := h2
    have q1 := md_at (f := (· + n * o.2.2.2.1)) (g := (· - n)) h1
    by_cases ht : o.2.1 = t
    · refine ⟨_, by show (mdT (mdT (sT S) t (· + n * o.2.2.2.1) (· - n)) o.2.1 id (· + n))[t]? = _; rw [ht]; exact md_at q1, ?_⟩
      show l - n ≤ c.2 - n + n
      omega
    · refine ⟨_, (md_off (f := id) (g := (· + n)) ht).trans q1, ?_⟩
      show l - n ≤ c.2 - n
      omega
theorem has_1 {t p l n : Nat} {b : Bool} {o : OO} {T : List (Nat × Nat)} (h : hasS t b p l T) (hm : matB b p o = true) (hn : n ≤ l) : hasS t b o.2.2.2.1 n T := by
  obtain ⟨c, h1, h2⟩ := h
  refine ⟨c, h1, ?_⟩
  cases b with
  | true =>
    have hp : o.2.2.2.1 ≤ p := by simp [matB] at hm; exact hm.2
    exact Nat.le_trans (Nat.mul_le_mul hn hp) h2
  | false => exact Nat.le_trans hn h2
theorem tr_O {t k n : Nat} {b : Bool} {o : OO} {S : SS} (ho : (sO S)[k]? = some o) (hn : n ≤ o.2.2.2.2) (hP : posO (sO S)) : (sO (trS t b k o n S)).length ≤ (sO S).length ∧ posO (sO (trS t b k o n S)) := by
  show (if n = o.2.2.2.2 then (sO S).eraseIdx k else (sO S).set k (o.1, o.2.1, o.2.2.1, o.2.2.2.1, o.2.2.2.2 - n)).length ≤ _ ∧ posO (if n = o.2.2.2.2 then (sO S).eraseIdx k else (sO S).set k (o.1, o.2.1, o.2.2.1, o.2.2.2.1, o.2.2.2.2 - n))
  by_cases h : n = o.2.2.2.2
  · rw [if_pos h]
    exact ⟨List.length_eraseIdx_le _ _, fun u hu => hP u (List.mem_of_mem_eraseIdx hu)⟩
  · rw [if_neg h, List.length_set]
    refine ⟨Nat.le_refl _, fun u hu => ?_⟩
    rcases List.mem_or_eq_of_mem_set hu with h1 | rfl
    · exact hP u h1
    · show 0 < o.2.2.2.2 - n
      omega
theorem c_X3_placesIt (hB : Bs B) {t u p : Int32} {b : Bool} (hE : Enc M S) (hP : posO (sO S)) (hN : sN S 2 < 2 ^ 30) (hb : boT (sT S)) (hR : plS t b u p S = R) : Tr B yX3_placesIt (Cond.code yX3_placesIt cX3_placesIt 9 (some .int)) (rmd 5 0 0) [.ref m, .int t, .int (bI b), .int u, .int p] (wM m ad sv ch ea fa 0 pm lm cm p0 s0 iw M) (PoM m ad sv ch ea fa pm lm cm p0 s0 iw R) nox := by
  have hT := hE.2.2.1.1
  have hl := hE.2.2.1.2.1
  refine tr_of hB (by decide +kernel) rfl ?_
  intro Γ X Y
  refine g_eq (ls' := [.val (.ref m), .val (.int t), .val (.int (bI b)), .val (.int u), .val (.int p), .unset, .unset, .unset, .unset]) rfl rfl ?_
  refine g_aload_n X dX3_placesIt_0 rfl rfl ?_
  refine g_iload_n X dX3_placesIt_1 rfl rfl ?_
  refine g_callV X dX3_placesIt_2 mv_X3_95 (c_X3_isTrader hB hT (by omega)) rfl cl_X3 (by repeat (first | with_reducible exact Rc.pt | with_reducible apply Rc.there)) (by repeat (first | with_reducible exact Pks.nil | (with_reducible refine Pks.pure (by assumption) ?_) | (with_reducible apply Pks.cons; focus ((repeat (first | with_reducible exact Pk.here | with_reducible apply Pk.there)); done)) | (refine Pks.cons Pk.here ?_))) rfl rfl (by decide) (by exact Nat.le_of_ble_eq_true rfl) (by first | decide | omega) (fun r w1 hq => ?_) (fun E q w1 hq => hq.elim)
  obtain ⟨rfl, rfl⟩ := hq
  dsimp only [wM, PoM, List.cons_append, List.nil_append, Option.toList_some, Option.toList_none]
  refine g_if_ne (tgt := 14) X dX3_placesIt_5 (by decide) (fun c_5 => ?_) (fun c_5 => ?_)
  · have h1 := bP_n0.mp c_5
    have hR1 := hR.symm.trans (if_neg (Classical.not_not.mpr h1))
    obtain ⟨t', ht, rfl⟩ := isT_of (by omega) h1
    refine g_iload_n X dX3_placesIt_14 rfl rfl ?_
    refine g_iload X dX3_placesIt_15 rfl ?_
    refine g_callS X dX3_placesIt_17 ms_X3_99 (c_X3_isDeal hB) rfl (by repeat (first | with_reducible exact Pks.nil | (with_reducible refine Pks.pure (by assumption) ?_) | (with_reducible apply Pks.cons; focus ((repeat (first | with_reducible exact Pk.here | with_reducible apply Pk.there)); done)) | (refine Pks.cons Pk.here ?_))) rfl rfl (by decide) (by exact Nat.le_of_ble_eq_true rfl) (by first | decide | omega) (fun r w1 hq => ?_) (fun E q w1 hq => hq.elim)
    obtain ⟨rfl, rfl⟩ := hq
    dsimp only [wM, PoM, List.cons_append, List.nil_append, Option.toList_some, Option.toList_none]
    refine g_if_ne (tgt := 29) X dX3_placesIt_20 (by decide) (fun c_20 => ?_) (fun c_20 => ?_)
    · have h2 := bP_n0.mp c_20
      have hR2 := hR1.trans (if_neg (Classical.not_not.mpr h2))
      obtain ⟨u', hu1, hu2, rfl⟩ := inR_of (a := 1) (b := 50) (by decide) (by decide) h2.1
      obtain ⟨p', hp1, hp2, rfl⟩ := inR_of (a := 1) (b := 99) (by decide) (by decide) h2.2
      rw [show cN (nI t') = t' from nI_clamp (by omega), show cN (nI u') = u' from nI_clamp (by omega), show cN (nI p') = p' from nI_clamp (by omega)] at hR2
      obtain ⟨c, hc⟩ : ∃ c, (sT S)[t']? = some c := ⟨_, List.getElem?_eq_getElem ht⟩
      have hM := hE.2.2.1.2.2 t' c hc
      have L2 : ∀ (l : Nat) (S' : SS) (M' : Nat → Int32) (x6 x7 x8 : Slot), LZ x8 → l ≤ u' → Enc M' S' → sN S' 2 < 2 ^ 30 → (sO S').length < 16 → hasS t' b p' l (sT S') → R = plE t' b p' u' (l, S') → G B Γ 0 0 (wM m ad sv ch ea fa 0 pm lm cm p0 s0 iw M') 189 [.val (.ref m), .val (.int (nI t')), .val (.int (bI b)), .val (.int (nI u')), .val (.int (nI p')), x6, .val (.int (nI l)), x7, x8] [] := by
        intro l S' M' x6 x7 x8 h8 hlu hE' hN' hO' hh hr
        by_cases hl0 : l = 0
        · subst hl0
          have e8 := hE'.n (i := 2) (v := sN S' 2 + 1) (x := M' 2 + 1) (by omega) (by rw [hE'.1 2 (by omega), nI_1])
          subst hr
          refine g_iload X dX3_placesIt_189 rfl ?_
          refine g_if_le (tgt := 318) X dX3_placesIt_191 (by decide) (fun c_191 => ?_) (fun c_191 => absurd ((by decide : nI 0 ≤ 0)) c_191)
          refine g_aload_n X dX3_placesIt_318 rfl rfl ?_
          refine g_getf X dX3_placesIt_319 fl_X3_9 (by repeat (first | with_reducible exact Pk.here | with_reducible apply Pk.there)) (by exact rfl) ?_
          refine g_iconst (v := 2) X dX3_placesIt_322 rfl ?_
          refine g_dup2 X dX3_placesIt_323 rfl rfl ?_
          refine g_iald (2) X dX3_placesIt_324 (by repeat (first | with_reducible exact Pk.here | with_reducible apply Pk.there)) (rfl) (by decide) (by exact rfl) ?_
          refine g_iconst (v := 1) X dX3_placesIt_325 rfl ?_
          refine g_iadd X dX3_placesIt_326 ?_
          refine g_iast (2) X dX3_placesIt_327 (by repeat (first | with_reducible exact Rp.here | with_reducible apply Rp.there)) (rfl) (by decide) ?_
          refine g_iload_n X dX3_placesIt_328 rfl rfl ?_
          refine g_iload X dX3_placesIt_329 rfl ?_
          refine g_isub X dX3_placesIt_331 ?_
          exact g_iret X Y dX3_placesIt_332 (rfl) (⟨_, 0, by rw [pk_sub (by omega)]; rfl, rfl, rfl, e8⟩) (Pks.tail (rest := _) (by repeat (first | with_reducible exact Pks.nil | (with_reducible refine Pks.pure (by assumption) ?_) | (with_reducible apply Pks.cons; focus ((repeat (first | with_reducible exact Pk.here | with_reducible apply Pk.there)); done)) | (refine Pks.cons Pk.here ?_))))
        · have hO1 := hE'.2.2.2.1.1
          have e6 := hE'.addO (o := (sN S' 2, t', b, p', l)) (x := nI ((sO S').length + 1)) rfl hO' ⟨hN', by show t' < 6; omega, by show p' < 100; omega, by show l < 100; omega⟩ rfl
          have hr2 : rsS t' b p' l S' = wO (wT S' (if b then mdT (sT S') t' (· - l * p') id else mdT (sT S') t' id (· - l))) (sO S' ++ [(sN S' 2, t', b, p', l)]) := if_neg hl0
          obtain ⟨c', hc1, hc2⟩ := hh
          cases b with
          | true =>
            simp only [show bI true = 1 from rfl] at e6
            have e7 := e6.cs (k := t') (v := l * p') (by omega) hc1 hc2
            have e8 := e7.n1 (i := 2) (by omega)
            have hr3 : R = (0, nI (u' - l), wN (rsS t' true p' l S') (up (sN S') 2 (sN S' 2 + 1))) := hr
            rw [hr2] at hr3
            subst hr3
            refine g_iload X dX3_placesIt_189 rfl ?_
            refine g_if_le (tgt := 318) X dX3_placesIt_191 (by decide) (fun c_191 => absurd c_191 (nI_nle (by omega) (by omega))) (fun c_191 => ?_)
            refine g_aload_n X dX3_placesIt_194 rfl rfl ?_
            refine g_getf X dX3_placesIt_195 fl_X3_9 (by repeat (first | with_reducible exact Pk.here | with_reducible apply Pk.there)) (by exact rfl) ?_
            refine g_iconst (v := 1) X dX3_placesIt_198 rfl ?_
            refine g_iald (1) X dX3_placesIt_199 (by repeat (first | with_reducible exact Pk.here | with_reducible apply Pk.there)) (rfl) (by decide) (by exact hO1) ?_
            refine g_callS X dX3_placesIt_200 ms_X3_61 (c_X3_orderAtPlace hB) rfl (by repeat (first | with_reducible exact Pks.nil | (with_reducible refine Pks.pure (by assumption) ?_) | (with_reducible apply Pks.cons; focus ((repeat (first | with_reducible exact Pk.here | with_reducible apply Pk.there)); done)) | (refine Pks.cons Pk.here ?_))) rfl rfl (by decide) (by exact Nat.le_of_ble_eq_true rfl) (by first | decide | omega) (fun r w1 hq => ?_) (fun E q w1 hq => hq.elim)
            obtain ⟨rfl, rfl⟩ := hq
            dsimp only [wM, PoM, List.cons_append, List.nil_append, Option.toList_some, Option.toList_none]
            rw [io]
            refine is_9_8 X dX3_placesIt_203 (by exact st_lz [_, _, _, _, _, _, _, _] [] h8 rfl) ?_
            refine g_aload_n X dX3_placesIt_205 rfl rfl ?_
            refine g_getf X dX3_placesIt_206 fl_X3_9 (by repeat (first | with_reducible exact Pk.here | with_reducible apply Pk.there)) (by exact rfl) ?_
            refine g_iload X dX3_placesIt_209 rfl ?_
            refine g_aload_n X dX3_placesIt_211 rfl rfl ?_
            refine g_getf X dX3_placesIt_212 fl_X3_9 (by repeat (first | with_reducible exact Pk.here | with_reducible apply Pk.there)) (by exact rfl) ?_
            refine g_iconst (v := 2) X dX3_placesIt_215 rfl ?_
            refine g_iald (2) X dX3_placesIt_216 (by repeat (first | with_reducible exact Pk.here | with_reducible apply Pk.there)) (rfl) (by decide) (by exact hE'.1 2 (by omega)) ?_
            refine g_iast (35 + 5 * (sO S').length) X dX3_placesIt_217 (by repeat (first | with_reducible exact Rp.here | with_reducible apply Rp.there)) (rfl) (by omega) ?_
            refine g_aload_n X dX3_placesIt_218 rfl rfl ?_
            refine g_getf X dX3_placesIt_219 fl_X3_9 (by repeat (first | with_reducible exact Pk.here | with_reducible apply Pk.there)) (by exact rfl) ?_
            refine g_iload X dX3_placesIt_222 rfl ?_
            refine g_iconst (v := 1) X dX3_placesIt_224 rfl ?_
            refine g_iadd X dX3_placesIt_225 ?_
            refine g_iload_n X dX3_placesIt_226 rfl rfl ?_
            refine g_iast (35 + 5 * (sO S').length + 1) X dX3_placesIt_227 (by repeat (first | with_reducible exact Rp.here | with_reducible apply Rp.there)) (nI_1 _) (by omega) ?_
            refine g_aload_n X dX3_placesIt_228 rfl rfl ?_
            refine g_getf X dX3_placesIt_229 fl_X3_9 (by repeat (first | with_reducible exact Pk.here | with_reducible apply Pk.there)) (by exact rfl) ?_
            refine g_iload X dX3_placesIt_232 rfl ?_
            refine g_iconst (v := 2) X dX3_placesIt_234 rfl ?_
            refine g_iadd X dX3_placesIt_235 ?_
            refine g_iload_n X dX3_placesIt_236 rfl rfl ?_
            refine g_if_eq (tgt := 244) X dX3_placesIt_237 (by decide) (fun c_237 => absurd c_237 (by decide)) (fun c_237 => ?_)
            refine g_iconst (v := 1) X dX3_placesIt_240 rfl ?_
            refine g_goto (tgt := 245) X dX3_placesIt_241 (by decide) ?_
            refine g_iast (35 + 5 * (sO S').length + 2) X dX3_placesIt_245 (by repeat (first | with_reducible exact Rp.here | with_reducible apply Rp.there)) (nIp2 _) (by omega) ?_
            refine g_aload_n X dX3_placesIt_246 rfl rfl ?_
            refine g_getf X dX3_placesIt_247 fl_X3_9 (by repeat (first | with_reducible exact Pk.here | with_reducible apply Pk.there)) (by exact rfl) ?_
            refine g_iload X dX3_placesIt_250 rfl ?_
            refine g_iconst (v := 3) X dX3_placesIt_252 rfl ?_
            refine g_iadd X dX3_placesIt_253 ?_
            refine g_iload X dX3_placesIt_254 rfl ?_
            refine g_iast (35 + 5 * (sO S').length + 3) X dX3_placesIt_256 (by repeat (first | with_reducible exact Rp.here | with_reducible apply Rp.there)) (nIp3 _) (by omega) ?_
            refine g_aload_n X dX3_placesIt_257 rfl rfl ?_
            refine g_getf X dX3_placesIt_258 fl_X3_9 (by repeat (first | with_reducible exact Pk.here | with_reducible apply Pk.there)) (by exact rfl) ?_
            refine g_iload X dX3_placesIt_261 rfl ?_
            refine g_iconst (v := 4) X dX3_placesIt_263 rfl ?_
            refine g_iadd X dX3_placesIt_264 ?_
            refine g_iload X dX3_placesIt_265 rfl ?_
            refine g_iast (35 + 5 * (sO S').length + 4) X dX3_placesIt_267 (by repeat (first | with_reducible exact Rp.here | with_reducible apply Rp.there)) (nIp4 _) (by omega) ?_
            refine g_aload_n X dX3_placesIt_268 rfl rfl ?_
            refine g_getf X dX3_placesIt_269 fl_X3_9 (by repeat (first | with_reducible exact Pk.here | with_reducible apply Pk.there)) (by exact rfl) ?_
            refine g_iconst (v := 1) X dX3_placesIt_272 rfl ?_
            refine g_dup2 X dX3_placesIt_273 rfl rfl ?_
            refine g_iald (1) X dX3_placesIt_274 (by repeat (first | with_reducible exact Pk.here | with_reducible apply Pk.there)) (rfl) (by decide) (by rw [upd_n (by omega), upd_n (by omega), upd_n (by omega), upd_n (by omega), upd_n (by omega), hO1]) ?_
            refine g_iconst (v := 1) X dX3_placesIt_275 rfl ?_
            refine g_iadd X dX3_placesIt_276 ?_
            rw [nI_1]
            refine g_iast (1) X dX3_placesIt_277 (by repeat (first | with_reducible exact Rp.here | with_reducible apply Rp.there)) (rfl) (by decide) ?_
            refine g_iload_n X dX3_placesIt_278 rfl rfl ?_
            refine g_if_eq (tgt := 302) X dX3_placesIt_279 (by decide) (fun c_279 => absurd c_279 (by decide)) (fun c_279 => ?_)
            refine g_aload_n X dX3_placesIt_282 rfl rfl ?_
            refine g_getf X dX3_placesIt_283 fl_X3_9 (by repeat (first | with_reducible exact Pk.here | with_reducible apply Pk.there)) (by exact rfl) ?_
            refine g_iload_n X dX3_placesIt_286 rfl rfl ?_
            refine g_callS X dX3_placesIt_287 ms_X3_78 (c_X3_traderAt hB) rfl (by repeat (first | with_reducible exact Pks.nil | (with_reducible refine Pks.pure (by assumption) ?_) | (with_reducible apply Pks.cons; focus ((repeat (first | with_reducible exact Pk.here | with_reducible apply Pk.there)); done)) | (refine Pks.cons Pk.here ?_))) rfl rfl (by decide) (by exact Nat.le_of_ble_eq_true rfl) (by first | decide | omega) (fun r w1 hq => ?_) (fun E q w1 hq => hq.elim)
            obtain ⟨rfl, rfl⟩ := hq
            dsimp only [wM, PoM, List.cons_append, List.nil_append, Option.toList_some, Option.toList_none]
            rw [it_]
            refine g_dup2 X dX3_placesIt_290 rfl rfl ?_
            refine g_iald (17+3*t') X dX3_placesIt_291 (by repeat (first | with_reducible exact Pk.here | with_reducible apply Pk.there)) (rfl) (by omega) (by exact rfl) ?_
            refine g_iload X dX3_placesIt_292 rfl ?_
            refine g_iload X dX3_placesIt_294 rfl ?_
            refine g_imul X dX3_placesIt_296 ?_
            rw [pk_mul]
            refine g_isub X dX3_placesIt_297 ?_
            refine g_iast (17+3*t') X dX3_placesIt_298 (by repeat (first | with_reducible exact Rp.here | with_reducible apply Rp.there)) (rfl) (by omega) ?_
            refine g_goto (tgt := 318) X dX3_placesIt_299 (by decide) ?_
            refine g_aload_n X dX3_placesIt_318 rfl rfl ?_
            refine g_getf X dX3_placesIt_319 fl_X3_9 (by repeat (first | with_reducible exact Pk.here | with_reducible apply Pk.there)) (by exact rfl) ?_
            refine g_iconst (v := 2) X dX3_placesIt_322 rfl ?_
            refine g_dup2 X dX3_placesIt_323 rfl rfl ?_
            refine g_iald (2) X dX3_placesIt_324 (by repeat (first | with_reducible exact Pk.here | with_reducible apply Pk.there)) (rfl) (by decide) (by exact rfl) ?_
            refine g_iconst (v := 1) X dX3_placesIt_325 rfl ?_
            refine g_iadd X dX3_placesIt_326 ?_
            refine g_iast (2) X dX3_placesIt_327 (by repeat (first | with_reducible exact Rp.here | with_reducible apply Rp.there)) (rfl) (by decide) ?_
            refine g_iload_n X dX3_placesIt_328 rfl rfl ?_
            refine g_iload X dX3_placesIt_329 rfl ?_
            refine g_isub X dX3_placesIt_331 ?_
            exact g_iret X Y dX3_placesIt_332 (rfl) (⟨_, 0, by rw [pk_sub (by omega)], rfl, rfl, e8⟩) (Pks.tail (rest := _) (by repeat (first | with_reducible exact Pks.nil | (with_reducible refine Pks.pure (by assumption) ?_) | (with_reducible apply Pks.cons; focus ((repeat (first | with_reducible exact Pk.here | with_reducible apply Pk.there)); done)) | (refine Pks.cons Pk.here ?_))))
          | false =>
            simp only [show bI false = 0 from rfl] at e6
            have e7 := e6.ws (k := t') (v := l) (by omega) hc1 hc2
            have e8 := e7.n1 (i := 2) (by omega)
            have hr3 : R = (0, nI (u' - l), wN (rsS t' false p' l S') (up (sN S') 2 (sN S' 2 + 1))) := hr
            rw [hr2] at hr3
            subst hr3
            refine g_iload X dX3_placesIt_189 rfl ?_
            refine g_if_le (tgt := 318) X dX3_placesIt_191 (by decide) (fun c_191 => absurd c_191 (nI_nle (by omega) (by omega))) (fun c_191 => ?_)
            refine g_aload_n X dX3_placesIt_194 rfl rfl ?_
            refine g_getf X dX3_placesIt_195 fl_X3_9 (by repeat (first | with_reducible exact Pk.here | with_reducible apply Pk.there)) (by exact rfl) ?_
            refine g_iconst (v := 1) X dX3_placesIt_198 rfl ?_
            refine g_iald (1) X dX3_placesIt_199 (by repeat (first | with_reducible exact Pk.here | with_reducible apply Pk.there)) (rfl) (by decide) (by exact hO1) ?_
            refine g_callS X dX3_placesIt_200 ms_X3_61 (c_X3_orderAtPlace hB) rfl (by repeat (first | with_reducible exact Pks.nil | (with_reducible refine Pks.pure (by assumption) ?_) | (with_reducible apply Pks.cons; focus ((repeat (first | with_reducible exact Pk.here | with_reducible apply Pk.there)); done)) | (refine Pks.cons Pk.here ?_))) rfl rfl (by decide) (by exact Nat.le_of_ble_eq_true rfl) (by first | decide | omega) (fun r w1 hq => ?_) (fun E q w1 hq => hq.elim)
            obtain ⟨rfl, rfl⟩ := hq
            dsimp only [wM, PoM, List.cons_append, List.nil_append, Option.toList_some, Option.toList_none]
            rw [io]
            refine is_9_8 X dX3_placesIt_203 (by exact st_lz [_, _, _, _, _, _, _, _] [] h8 rfl) ?_
            refine g_aload_n X dX3_placesIt_205 rfl rfl ?_
            refine g_getf X dX3_placesIt_206 fl_X3_9 (by repeat (first | with_reducible exact Pk.here | with_reducible apply Pk.there)) (by exact rfl) ?_
            refine g_iload X dX3_placesIt_209 rfl ?_
            refine g_aload_n X dX3_placesIt_211 rfl rfl ?_
            refine g_getf X dX3_placesIt_212 fl_X3_9 (by repeat (first | with_reducible exact Pk.here | with_reducible apply Pk.there)) (by exact rfl) ?_
            refine g_iconst (v := 2) X dX3_placesIt_215 rfl ?_
            refine g_iald (2) X dX3_placesIt_216 (by repeat (first | with_reducible exact Pk.here | with_reducible apply Pk.there)) (rfl) (by decide) (by exact hE'.1 2 (by omega)) ?_
            refine g_iast (35 + 5 * (sO S').length) X dX3_placesIt_217 (by repeat (first | with_reducible exact Rp.here | with_reducible apply Rp.there)) (rfl) (by omega) ?_
            refine g_aload_n X dX3_placesIt_218 rfl rfl ?_
            refine g_getf X dX3_placesIt_219 fl_X3_9 (by repeat (first | with_reducible exact Pk.here | with_reducible apply Pk.there)) (by exact rfl) ?_
            refine g_iload X dX3_placesIt_222 rfl ?_
            refine g_iconst (v := 1) X dX3_placesIt_224 rfl ?_
            refine g_iadd X dX3_placesIt_225 ?_
            refine g_iload_n X dX3_placesIt_226 rfl rfl ?_
            refine g_iast (35 + 5 * (sO S').length + 1) X dX3_placesIt_227 (by repeat (first | with_reducible exact Rp.here | with_reducible apply Rp.there)) (nI_1 _) (by omega) ?_
            refine g_aload_n X dX3_placesIt_228 rfl rfl ?_
            refine g_getf X dX3_placesIt_229 fl_X3_9 (by repeat (first | with_reducible exact Pk.here | with_reducible apply Pk.there)) (by exact rfl) ?_
            refine g_iload X dX3_placesIt_232 rfl ?_
            refine g_iconst (v := 2) X dX3_placesIt_234 rfl ?_
            refine g_iadd X dX3_placesIt_235 ?_
            refine g_iload_n X dX3_placesIt_236 rfl rfl ?_
            refine g_if_eq (tgt := 244) X dX3_placesIt_237 (by decide) (fun c_237 => ?_) (fun c_237 => absurd (rfl) c_237)
            refine g_iconst (v := 0) X dX3_placesIt_244 rfl ?_
            refine g_iast (35 + 5 * (sO S').length + 2) X dX3_placesIt_245 (by repeat (first | with_reducible exact Rp.here | with_reducible apply Rp.there)) (nIp2 _) (by omega) ?_
            refine g_aload_n X dX3_placesIt_246 rfl rfl ?_
            refine g_getf X dX3_placesIt_247 fl_X3_9 (by repeat (first | with_reducible exact Pk.here | with_reducible apply Pk.there)) (by exact rfl) ?_
            refine g_iload X dX3_placesIt_250 rfl ?_
            refine g_iconst (v := 3) X dX3_placesIt_252 rfl ?_
            refine g_iadd X dX3_placesIt_253 ?_
            refine g_iload X dX3_placesIt_254 rfl ?_
            refine g_iast (35 + 5 * (sO S').length + 3) X dX3_placesIt_256 (by repeat (first | with_reducible exact Rp.here | with_reducible apply Rp.there)) (nIp3 _) (by omega) ?_
            refine g_aload_n X dX3_placesIt_257 rfl rfl ?_
            refine g_getf X dX3_placesIt_258 fl_X3_9 (by repeat (first | with_reducible exact Pk.here | with_reducible apply Pk.there)) (by exact rfl) ?_
            refine g_iload X dX3_placesIt_261 rfl ?_
            refine g_iconst (v := 4) X dX3_placesIt_263 rfl ?_
            refine g_iadd X dX3_placesIt_264 ?_
            refine g_iload X dX3_placesIt_265 rfl ?_
            refine g_iast (35 + 5 * (sO S').length + 4) X dX3_placesIt_267 (by repeat (first | with_reducible exact Rp.here | with_reducible apply Rp.there)) (nIp4 _) (by omega) ?_
            refine g_aload_n X dX3_placesIt_268 rfl rfl ?_
            refine g_getf X dX3_placesIt_269 fl_X3_9 (by repeat (first | with_reducible exact Pk.here | with_reducible apply Pk.there)) (by exact rfl) ?_
            refine g_iconst (v := 1) X dX3_placesIt_272 rfl ?_
            refine g_dup2 X dX3_placesIt_273 rfl rfl ?_
            refine g_iald (1) X dX3_placesIt_274 (by repeat (first | with_reducible exact Pk.here | with_reducible apply Pk.there)) (rfl) (by decide) (by rw [upd_n (by omega), upd_n (by omega), upd_n (by omega), upd_n (by omega), upd_n (by omega), hO1]) ?_
            refine g_iconst (v := 1) X dX3_placesIt_275 rfl ?_
            refine g_iadd X dX3_placesIt_276 ?_
            rw [nI_1]
            refine g_iast (1) X dX3_placesIt_277 (by repeat (first | with_reducible exact Rp.here | with_reducible apply Rp.there)) (rfl) (by decide) ?_
            refine g_iload_n X dX3_placesIt_278 rfl rfl ?_
            refine g_if_eq (tgt := 302) X dX3_placesIt_279 (by decide) (fun c_279 => ?_) (fun c_279 => absurd (rfl) c_279)
            refine g_aload_n X dX3_placesIt_302 rfl rfl ?_
            refine g_getf X dX3_placesIt_303 fl_X3_9 (by repeat (first | with_reducible exact Pk.here | with_reducible apply Pk.there)) (by exact rfl) ?_
            refine g_iload_n X dX3_placesIt_306 rfl rfl ?_
            refine g_callS X dX3_placesIt_307 ms_X3_78 (c_X3_traderAt hB) rfl (by repeat (first | with_reducible exact Pks.nil | (with_reducible refine Pks.pure (by assumption) ?_) | (with_reducible apply Pks.cons; focus ((repeat (first | with_reducible exact Pk.here | with_reducible apply Pk.there)); done)) | (refine Pks.cons Pk.here ?_))) rfl rfl (by decide) (by exact Nat.le_of_ble_eq_true rfl) (by first | decide | omega) (fun r w1 hq => ?_) (fun E q w1 hq => hq.elim)
            obtain ⟨rfl, rfl⟩ := hq
            dsimp only [wM, PoM, List.cons_append, List.nil_append, Option.toList_some, Option.toList_none]
            rw [it_]
            refine g_iconst (v := 1) X dX3_placesIt_310 rfl ?_
            refine g_iadd X dX3_placesIt_311 ?_
            rw [nI_1]
            refine g_dup2 X dX3_placesIt_312 rfl rfl ?_
            refine g_iald (17+3*t'+1) X dX3_placesIt_313 (by repeat (first | with_reducible exact Pk.here | with_reducible apply Pk.there)) (rfl) (by omega) (by exact rfl) ?_
            refine g_iload X dX3_placesIt_314 rfl ?_
            refine g_isub X dX3_placesIt_316 ?_
            refine g_iast (17+3*t'+1) X dX3_placesIt_317 (by repeat (first | with_reducible exact Rp.here | with_reducible apply Rp.there)) (rfl) (by omega) ?_
            refine g_aload_n X dX3_placesIt_318 rfl rfl ?_
            refine g_getf X dX3_placesIt_319 fl_X3_9 (by repeat (first | with_reducible exact Pk.here | with_reducible apply Pk.there)) (by exact rfl) ?_
            refine g_iconst (v := 2) X dX3_placesIt_322 rfl ?_
            refine g_dup2 X dX3_placesIt_323 rfl rfl ?_
            refine g_iald (2) X dX3_placesIt_324 (by repeat (first | with_reducible exact Pk.here | with_reducible apply Pk.there)) (rfl) (by decide) (by exact rfl) ?_
            refine g_iconst (v := 1) X dX3_placesIt_325 rfl ?_
            refine g_iadd X dX3_placesIt_326 ?_
            refine g_iast (2) X dX3_placesIt_327 (by repeat (first | with_reducible exact Rp.here | with_reducible apply Rp.there)) (rfl) (by decide) ?_
            refine g_iload_n X dX3_placesIt_328 rfl rfl ?_
            refine g_iload X dX3_placesIt_329 rfl ?_
            refine g_isub X dX3_placesIt_331 ?_
            exact g_iret X Y dX3_placesIt_332 (rfl) (⟨_, 0, by rw [pk_sub (by omega)], rfl, rfl, e8⟩) (Pks.tail (rest := _) (by repeat (first | with_reducible exact Pks.nil | (with_reducible refine Pks.pure (by assumption) ?_) | (with_reducible apply Pks.cons; focus ((repeat (first | with_reducible exact Pk.here | with_reducible apply Pk.there)); done)) | (refine Pks.cons Pk.here ?_))))
      have L : ∀ (f l : Nat) (S' : SS) (M' : Nat → Int32) (x6 x8 : Slot), LZ x8 → l ≤ f → l ≤ u' → Enc M' S' → posO (sO S') → sN S' 2 < 2 ^ 30 → (sO S').length < 16 → hasS t' b p' l (sT S') → R = plE t' b p' u' (mlS t' b p' f l S') → G B Γ 0 0 (wM m ad sv ch ea fa 0 pm lm cm p0 s0 iw M') 130 [.val (.ref m), .val (.int (nI t')), .val (.int (bI b)), .val (.int (nI u')), .val (.int (nI p')), x6, .val (.int (nI l)), .val (.int (oI_ (fm b p' (sO S')))), x8] [] := by
        intro f
        induction f with
        | zero =>
          intro l S' M' x6 x8 h8 hlf hlu hE' hP' hN' hO' hh hr
          obtain rfl : l = 0 := by omega
          refine g_iload X dX3_placesIt_130 rfl ?_
          refine g_if_le (tgt := 189) X dX3_placesIt_132 (by decide) (fun c_132 => ?_) (fun c_132 => absurd ((by decide : nI 0 ≤ 0)) c_132)
          exact L2 0 S' M' _ _ _ h8 hlu hE' hN' hO' hh hr
        | succ f ih =>
          intro l S' M' x6 x8 h8 hlf hlu hE' hP' hN' hO' hh hr
          by_cases hl0 : l = 0
          · subst hl0
            refine g_iload X dX3_placesIt_130 rfl ?_
            refine g_if_le (tgt := 189) X dX3_placesIt_132 (by decide) (fun c_132 => ?_) (fun c_132 => absurd ((by decide : nI 0 ≤ 0)) c_132)
            exact L2 0 S' M' _ _ _ h8 hlu hE' hN' hO' hh hr
          · cases hf : fm b p' (sO S') with
            | none =>
              simp only [mlS, if_neg hl0, hf] at hr
              refine g_iload X dX3_placesIt_130 rfl ?_
              refine g_if_le (tgt := 189) X dX3_placesIt_132 (by decide) (fun c_132 => absurd c_132 (nI_nle (by omega) (by omega))) (fun c_132 => ?_)
              refine g_iload X dX3_placesIt_135 rfl ?_
              refine g_iconst (v := (-1)) X dX3_placesIt_137 rfl ?_
              refine g_icmp_eq (tgt := 189) X dX3_placesIt_138 (by decide) (fun c_138 => ?_) (fun c_138 => absurd (rfl) c_138)
              exact L2 l S' M' _ _ _ h8 hlu hE' hN' hO' hh hr
            | some k =>
              obtain ⟨hk, o, ho, hm⟩ := fmU_lt _ _ hf
              simp only [mlS, if_neg hl0, hf, ho] at hr
              have hE1 := hE'.2.2.2.1
              obtain ⟨⟨e0, e1, e2, e3, e4⟩, k1, k2, k3, k4⟩ := hE1.2.2 k o ho
              have hpo : 0 < o.2.2.2.2 := hP' o (List.mem_of_getElem? ho)
              have hn1 : min l o.2.2.2.2 ≤ o.2.2.2.2 := Nat.min_le_right ..
              have hn2 : min l o.2.2.2.2 ≤ l := Nat.min_le_left ..
              have hn3 : 0 < min l o.2.2.2.2 := by omega
              obtain ⟨q1, q2⟩ := tr_O (t := t') (b := b) ho hn1 hP'
              refine g_iload X dX3_placesIt_130 rfl ?_
              refine g_if_le (tgt := 189) X dX3_placesIt_132 (by decide) (fun c_132 => absurd c_132 (nI_nle (by omega) (by omega))) (fun c_132 => ?_)
              refine g_iload X dX3_placesIt_135 rfl ?_
              refine g_iconst (v := (-1)) X dX3_placesIt_137 rfl ?_
              refine g_icmp_eq (tgt := 189) X dX3_placesIt_138 (by decide) (fun c_138 => absurd c_138 (fun e => nomatch (oI_none (x := some k) (fun j e => by cases e; omega)).mp e)) (fun c_138 => ?_)
              refine g_iload X dX3_placesIt_141 rfl ?_
              refine g_aload_n X dX3_placesIt_143 rfl rfl ?_
              refine g_getf X dX3_placesIt_144 fl_X3_9 (by repeat (first | with_reducible exact Pk.here | with_reducible apply Pk.there)) (by exact rfl) ?_
              refine g_iload X dX3_placesIt_147 rfl ?_
              refine g_callS X dX3_placesIt_149 ms_X3_61 (c_X3_orderAtPlace hB) rfl (by repeat (first | with_reducible exact Pks.nil | (with_reducible refine Pks.pure (by assumption) ?_) | (with_reducible apply Pks.cons; focus ((repeat (first | with_reducible exact Pk.here | with_reducible apply Pk.there)); done)) | (refine Pks.cons Pk.here ?_))) rfl rfl (by decide) (by exact Nat.le_of_ble_eq_true rfl) (by first | decide | omega) (fun r w1 hq => ?_) (fun E q w1 hq => hq.elim)
              obtain ⟨rfl, rfl⟩ := hq
              dsimp only [wM, PoM, List.cons_append, List.nil_append, Option.toList_some, Option.toList_none]
              rw [show oI_ (some k) = nI k from rfl, io]
              refine g_iconst (v := 4) X dX3_placesIt_152 rfl ?_
              refine g_iadd X dX3_placesIt_153 ?_
              refine g_iald (35 + 5 * k + 4) X dX3_placesIt_154 (by repeat (first | with_reducible exact Pk.here | with_reducible apply Pk.there)) (nIp4 _) (by omega) (by exact e4) ?_
              refine g_callS X dX3_placesIt_155 ms_X3_111 (c_J14_min hB rfl rfl (by omega) (by omega)) rfl (by repeat (first | with_reducible exact Pks.nil | (with_reducible refine Pks.pure (by assumption) ?_) | (with_reducible apply Pks.cons; focus ((repeat (first | with_reducible exact Pk.here | with_reducible apply Pk.there)); done)) | (refine Pks.cons Pk.here ?_))) rfl rfl (by decide) (by exact Nat.le_of_ble_eq_true rfl) (by first | decide | omega) (fun r w1 hq => ?_) (fun E q w1 hq => hq.elim)
              obtain ⟨rfl, rfl⟩ := hq
              dsimp only [wM, PoM, List.cons_append, List.nil_append, Option.toList_some, Option.toList_none]
              refine is_9_8 X dX3_placesIt_158 (by exact st_lz [_, _, _, _, _, _, _, _] [] h8 rfl) ?_
              refine g_aload_n X dX3_placesIt_160 rfl rfl ?_
              refine g_iload_n X dX3_placesIt_161 rfl rfl ?_
              refine g_iload_n X dX3_placesIt_162 rfl rfl ?_
              refine g_iload X dX3_placesIt_163 rfl ?_
              refine g_iload X dX3_placesIt_165 rfl ?_
              refine g_callV X dX3_placesIt_167 mv_X3_116 (c_X3_trades hB hE' ho (by omega) hn1 (has_1 hh hm hn2)) rfl cl_X3 (by repeat (first | with_reducible exact Rc.pt | with_reducible apply Rc.there)) (by repeat (first | with_reducible exact Pks.nil | (with_reducible refine Pks.pure (by assumption) ?_) | (with_reducible apply Pks.cons; focus ((repeat (first | with_reducible exact Pk.here | with_reducible apply Pk.there)); done)) | (refine Pks.cons Pk.here ?_))) rfl rfl (by decide) (by exact Nat.le_of_ble_eq_true rfl) (by first | decide | omega) (fun r w1 hq => ?_) (fun E q w1 hq => hq.elim)
              obtain ⟨M2, rfl, rfl, hE2⟩ := hq
              dsimp only [wM, PoM, List.cons_append, List.nil_append, Option.toList_some, Option.toList_none]
              refine g_iload X dX3_placesIt_170 rfl ?_
              refine g_iload X dX3_placesIt_172 rfl ?_
              refine g_isub X dX3_placesIt_174 ?_
              rw [pk_sub hn2]
              refine is_9_6 X dX3_placesIt_175 rfl ?_
              refine g_aload_n X dX3_placesIt_177 rfl rfl ?_
              refine g_iload_n X dX3_placesIt_178 rfl rfl ?_
              refine g_iload X dX3_placesIt_179 rfl ?_
              refine g_callV X dX3_placesIt_181 mv_X3_107 (c_X3_firstMatch hB hE2.2.2.2.1 (by omega)) rfl cl_X3 (by repeat (first | with_reducible exact Rc.pt | with_reducible apply Rc.there)) (by repeat (first | with_reducible exact Pks.nil | (with_reducible refine Pks.pure (by assumption) ?_) | (with_reducible apply Pks.cons; focus ((repeat (first | with_reducible exact Pk.here | with_reducible apply Pk.there)); done)) | (refine Pks.cons Pk.here ?_))) rfl rfl (by decide) (by exact Nat.le_of_ble_eq_true rfl) (by first | decide | omega) (fun r w1 hq => ?_) (fun E q w1 hq => hq.elim)
              obtain ⟨rfl, rfl⟩ := hq
              dsimp only [wM, PoM, List.cons_append, List.nil_append, Option.toList_some, Option.toList_none]
              refine is_9_7 X dX3_placesIt_184 rfl ?_
              refine g_goto (tgt := 130) X dX3_placesIt_186 (by decide) ?_
              exact ih _ _ _ _ _ LZ.i (by omega) (by omega) hE2 q2 hN' (by omega) (has_tr hh hm hn2) hr
      have hO1 := hE.2.2.2.1.1
      have hO2 := hE.2.2.2.1.2.1
      have J : ∀ x, x = bI (lkS t' b u' p' (sT S)) → G B Γ 0 0 (wM m ad sv ch ea fa 0 pm lm cm p0 s0 iw M) 77 [.val (.ref m), .val (.int (nI t')), .val (.int (bI b)), .val (.int (nI u')), .val (.int (nI p')), .unset, .unset, .unset, .unset] [.int x] := by
        intro x hx
        subst hx
        cases hk : lkS t' b u' p' (sT S) with
        | true =>
          rw [hk] at hR2
          obtain rfl : R = erS 3 S := hR2
          refine is_9_5 X dX3_placesIt_77 rfl ?_
          refine g_iload X dX3_placesIt_79 rfl ?_
          refine g_if_ne (tgt := 95) X dX3_placesIt_81 (by decide) (fun c_81 => ?_) (fun c_81 => absurd c_81 (by decide))
          refine g_aload_n X dX3_placesIt_95 rfl rfl ?_
          refine g_iconst (v := 3) X dX3_placesIt_96 rfl ?_
          refine g_callV X dX3_placesIt_97 mv_X3_75 (c_X3_throwing hB) rfl cl_X3 (by repeat (first | with_reducible exact Rc.pt | with_reducible apply Rc.there)) (by repeat (first | with_reducible exact Pks.nil | (with_reducible refine Pks.pure (by assumption) ?_) | (with_reducible apply Pks.cons; focus ((repeat (first | with_reducible exact Pk.here | with_reducible apply Pk.there)); done)) | (refine Pks.cons Pk.here ?_))) rfl rfl (by decide) (by exact Nat.le_of_ble_eq_true rfl) (by first | decide | omega) (fun r w1 hq => ?_) (fun E q w1 hq => hq.elim)
          obtain ⟨rfl, rfl⟩ := hq
          dsimp only [wM, PoM, List.cons_append, List.nil_append, Option.toList_some, Option.toList_none]
          exact g_iret X Y dX3_placesIt_100 (rfl) (⟨_, 3, rfl, rfl, rfl, hE⟩) (Pks.tail (rest := _) (by repeat (first | with_reducible exact Pks.nil | (with_reducible refine Pks.pure (by assumption) ?_) | (with_reducible apply Pks.cons; focus ((repeat (first | with_reducible exact Pk.here | with_reducible apply Pk.there)); done)) | (refine Pks.cons Pk.here ?_))))
        | false =>
          rw [hk, Bool.false_or] at hR2
          cases hm : moU t' b p' (sO S) (sO S).length with
          | true =>
            rw [hm] at hR2
            obtain rfl : R = erS 3 S := hR2
            refine is_9_5 X dX3_placesIt_77 rfl ?_
            refine g_iload X dX3_placesIt_79 rfl ?_
            refine g_if_ne (tgt := 95) X dX3_placesIt_81 (by decide) (fun c_81 => absurd c_81 ((by decide))) (fun c_81 => ?_)
            refine g_aload_n X dX3_placesIt_84 rfl rfl ?_
            refine g_iload_n X dX3_placesIt_85 rfl rfl ?_
            refine g_iload_n X dX3_placesIt_86 rfl rfl ?_
            refine g_iload X dX3_placesIt_87 rfl ?_
            refine g_callV X dX3_placesIt_89 mv_X3_103 (c_X3_matchesOwn hB hE.2.2.2.1 (by omega) (by omega)) rfl cl_X3 (by repeat (first | with_reducible exact Rc.pt | with_reducible apply Rc.there)) (by repeat (first | with_reducible exact Pks.nil | (with_reducible refine Pks.pure (by assumption) ?_) | (with_reducible apply Pks.cons; focus ((repeat (first | with_reducible exact Pk.here | with_reducible apply Pk.there)); done)) | (refine Pks.cons Pk.here ?_))) rfl rfl (by decide) (by exact Nat.le_of_ble_eq_true rfl) (by first | decide | omega) (fun r w1 hq => ?_) (fun E q w1 hq => hq.elim)
            obtain ⟨rfl, rfl⟩ := hq
            dsimp only [wM, PoM, List.cons_append, List.nil_append, Option.toList_some, Option.toList_none]
            rw [hm]
            refine g_if_eq (tgt := 101) X dX3_placesIt_92 (by decide) (fun c_92 => absurd c_92 ((by decide))) (fun c_92 => ?_)
            refine g_aload_n X dX3_placesIt_95 rfl rfl ?_
            refine g_iconst (v := 3) X dX3_placesIt_96 rfl ?_
            refine g_callV X dX3_placesIt_97 mv_X3_75 (c_X3_throwing hB) rfl cl_X3 (by repeat (first | with_reducible exact Rc.pt | with_reducible apply Rc.there)) (by repeat (first | with_reducible exact Pks.nil | (with_reducible refine Pks.pure (by assumption) ?_) | (with_reducible apply Pks.cons; focus ((repeat (first | with_reducible exact Pk.here | with_reducible apply Pk.there)); done)) | (refine Pks.cons Pk.here ?_))) rfl rfl (by decide) (by exact Nat.le_of_ble_eq_true rfl) (by first | decide | omega) (fun r w1 hq => ?_) (fun E q w1 hq => hq.elim)
            obtain ⟨rfl, rfl⟩ := hq
            dsimp only [wM, PoM, List.cons_append, List.nil_append, Option.toList_some, Option.toList_none]
            exact g_iret X Y dX3_placesIt_100 (rfl) (⟨_, 3, rfl, rfl, rfl, hE⟩) (Pks.tail (rest := _) (by repeat (first | with_reducible exact Pks.nil | (with_reducible refine Pks.pure (by assumption) ?_) | (with_reducible apply Pks.cons; focus ((repeat (first | with_reducible exact Pk.here | with_reducible apply Pk.there)); done)) | (refine Pks.cons Pk.here ?_))))
          | false =>
            rw [hm] at hR2
            refine is_9_5 X dX3_placesIt_77 rfl ?_
            refine g_iload X dX3_placesIt_79 rfl ?_
            refine g_if_ne (tgt := 95) X dX3_placesIt_81 (by decide) (fun c_81 => absurd c_81 ((by decide))) (fun c_81 => ?_)
            refine g_aload_n X dX3_placesIt_84 rfl rfl ?_
            refine g_iload_n X dX3_placesIt_85 rfl rfl ?_
            refine g_iload_n X dX3_placesIt_86 rfl rfl ?_
            refine g_iload X dX3_placesIt_87 rfl ?_
            refine g_callV X dX3_placesIt_89 mv_X3_103 (c_X3_matchesOwn hB hE.2.2.2.1 (by omega) (by omega)) rfl cl_X3 (by repeat (first | with_reducible exact Rc.pt | with_reducible apply Rc.there)) (by repeat (first | with_reducible exact Pks.nil | (with_reducible refine Pks.pure (by assumption) ?_) | (with_reducible apply Pks.cons; focus ((repeat (first | with_reducible exact Pk.here | with_reducible apply Pk.there)); done)) | (refine Pks.cons Pk.here ?_))) rfl rfl (by decide) (by exact Nat.le_of_ble_eq_true rfl) (by first | decide | omega) (fun r w1 hq => ?_) (fun E q w1 hq => hq.elim)
            obtain ⟨rfl, rfl⟩ := hq
            dsimp only [wM, PoM, List.cons_append, List.nil_append, Option.toList_some, Option.toList_none]
            rw [hm]
            refine g_if_eq (tgt := 101) X dX3_placesIt_92 (by decide) (fun c_92 => ?_) (fun c_92 => absurd (rfl) c_92)
            refine g_aload_n X dX3_placesIt_101 rfl rfl ?_
            refine g_getf X dX3_placesIt_102 fl_X3_9 (by repeat (first | with_reducible exact Pk.here | with_reducible apply Pk.there)) (by exact rfl) ?_
            refine g_iconst (v := 1) X dX3_placesIt_105 rfl ?_
            refine g_iald (1) X dX3_placesIt_106 (by repeat (first | with_reducible exact Pk.here | with_reducible apply Pk.there)) (rfl) (by decide) (by exact hO1) ?_
            refine g_bipush (v := 16) X dX3_placesIt_107 rfl ?_
            refine g_icmp_ne (tgt := 118) X dX3_placesIt_109 (by decide) (fun c_109 => ?_) (fun c_109 => ?_)
            · have h5 : ¬ (sO S).length = 16 := fun e => c_109 (by rw [e]; rfl)
              have hR3 : R = plE t' b p' u' (mlS t' b p' u' u' S) := hR2.trans (if_neg h5)
              refine g_iload_n X dX3_placesIt_118 rfl rfl ?_
              refine is_9_6 X dX3_placesIt_119 rfl ?_
              refine g_aload_n X dX3_placesIt_121 rfl rfl ?_
              refine g_iload_n X dX3_placesIt_122 rfl rfl ?_
              refine g_iload X dX3_placesIt_123 rfl ?_
              refine g_callV X dX3_placesIt_125 mv_X3_107 (c_X3_firstMatch hB hE.2.2.2.1 (by omega)) rfl cl_X3 (by repeat (first | with_reducible exact Rc.pt | with_reducible apply Rc.there)) (by repeat (first | with_reducible exact Pks.nil | (with_reducible refine Pks.pure (by assumption) ?_) | (with_reducible apply Pks.cons; focus ((repeat (first | with_reducible exact Pk.here | with_reducible apply Pk.there)); done)) | (refine Pks.cons Pk.here ?_))) rfl rfl (by decide) (by exact Nat.le_of_ble_eq_true rfl) (by first | decide | omega) (fun r w1 hq => ?_) (fun E q w1 hq => hq.elim)
              obtain ⟨rfl, rfl⟩ := hq
              dsimp only [wM, PoM, List.cons_append, List.nil_append, Option.toList_some, Option.toList_none]
              refine is_9_7 X dX3_placesIt_128 rfl ?_
              refine L u' u' S M _ _ LZ.u (Nat.le_refl _) (Nat.le_refl _) hE hP hN (by omega) ⟨c, hc, ?_⟩ hR3
              cases b with
              | true => simp only [lkS, hc, if_true, decide_eq_false_iff_not] at hk; simp only [if_true]; omega
              | false => simp only [lkS, hc, decide_eq_false_iff_not] at hk; show u' ≤ c.2; simp at hk; omega
            · have h5 : (sO S).length = 16 := nI_inj (by omega) (by decide) c_109
              obtain rfl : R = erS 4 S := hR2.trans (if_pos h5)
              refine g_aload_n X dX3_placesIt_112 rfl rfl ?_
              refine g_iconst (v := 4) X dX3_placesIt_113 rfl ?_
              refine g_callV X dX3_placesIt_114 mv_X3_75 (c_X3_throwing hB) rfl cl_X3 (by repeat (first | with_reducible exact Rc.pt | with_reducible apply Rc.there)) (by repeat (first | with_reducible exact Pks.nil | (with_reducible refine Pks.pure (by assumption) ?_) | (with_reducible apply Pks.cons; focus ((repeat (first | with_reducible exact Pk.here | with_reducible apply Pk.there)); done)) | (refine Pks.cons Pk.here ?_))) rfl rfl (by decide) (by exact Nat.le_of_ble_eq_true rfl) (by first | decide | omega) (fun r w1 hq => ?_) (fun E q w1 hq => hq.elim)
              obtain ⟨rfl, rfl⟩ := hq
              dsimp only [wM, PoM, List.cons_append, List.nil_append, Option.toList_some, Option.toList_none]
              exact g_iret X Y dX3_placesIt_117 (rfl) (⟨_, 4, rfl, rfl, rfl, hE⟩) (Pks.tail (rest := _) (by repeat (first | with_reducible exact Pks.nil | (with_reducible refine Pks.pure (by assumption) ?_) | (with_reducible apply Pks.cons; focus ((repeat (first | with_reducible exact Pk.here | with_reducible apply Pk.there)); done)) | (refine Pks.cons Pk.here ?_))))
      have hcb := hb c (List.mem_of_getElem? hc)
      have hup : u' * p' ≤ 50 * 99 := Nat.mul_le_mul hu2 hp2
      cases b with
      | true =>
        refine g_iload_n X dX3_placesIt_29 rfl rfl ?_
        refine g_if_eq (tgt := 57) X dX3_placesIt_30 (by decide) (fun c_30 => absurd c_30 ((by decide))) (fun c_30 => ?_)
        refine g_aload_n X dX3_placesIt_33 rfl rfl ?_
        refine g_getf X dX3_placesIt_34 fl_X3_9 (by repeat (first | with_reducible exact Pk.here | with_reducible apply Pk.there)) (by exact rfl) ?_
        refine g_iload_n X dX3_placesIt_37 rfl rfl ?_
        refine g_callS X dX3_placesIt_38 ms_X3_78 (c_X3_traderAt hB) rfl (by repeat (first | with_reducible exact Pks.nil | (with_reducible refine Pks.pure (by assumption) ?_) | (with_reducible apply Pks.cons; focus ((repeat (first | with_reducible exact Pk.here | with_reducible apply Pk.there)); done)) | (refine Pks.cons Pk.here ?_))) rfl rfl (by decide) (by exact Nat.le_of_ble_eq_true rfl) (by first | decide | omega) (fun r w1 hq => ?_) (fun E q w1 hq => hq.elim)
        obtain ⟨rfl, rfl⟩ := hq
        dsimp only [wM, PoM, List.cons_append, List.nil_append, Option.toList_some, Option.toList_none]
        rw [it_]
        refine g_iald (17 + 3 * t') X dX3_placesIt_41 (by repeat (first | with_reducible exact Pk.here | with_reducible apply Pk.there)) (rfl) (by omega) (by exact hM.1) ?_
        refine g_iload_n X dX3_placesIt_42 rfl rfl ?_
        refine g_iload X dX3_placesIt_43 rfl ?_
        refine g_imul X dX3_placesIt_45 ?_
        rw [pk_mul]
        refine g_icmp_ge (tgt := 53) X dX3_placesIt_46 (by decide) (fun c_46 => ?_) (fun c_46 => ?_)
        · refine g_iconst (v := 0) X dX3_placesIt_53 rfl ?_
          refine g_goto (tgt := 77) X dX3_placesIt_54 (by decide) ?_
          have h7 := (nI_leI (by omega) (by omega)).mp c_46
          exact J 0 (by simp [lkS, hc, bI]; omega)
        · refine g_iconst (v := 1) X dX3_placesIt_49 rfl ?_
          refine g_goto (tgt := 77) X dX3_placesIt_50 (by decide) ?_
          have h7 : c.1 < u' * p' := Nat.lt_of_not_le fun q => c_46 ((nI_leI (by omega) (by omega)).mpr q)
          exact J 1 (by simp [lkS, hc, bI]; omega)
      | false =>
        refine g_iload_n X dX3_placesIt_29 rfl rfl ?_
        refine g_if_eq (tgt := 57) X dX3_placesIt_30 (by decide) (fun c_30 => ?_) (fun c_30 => absurd (rfl) c_30)
        refine g_aload_n X dX3_placesIt_57 rfl rfl ?_
        refine g_getf X dX3_placesIt_58 fl_X3_9 (by repeat (first | with_reducible exact Pk.here | with_reducible apply Pk.there)) (by exact rfl) ?_
        refine g_iload_n X dX3_placesIt_61 rfl rfl ?_
        refine g_callS X dX3_placesIt_62 ms_X3_78 (c_X3_traderAt hB) rfl (by repeat (first | with_reducible exact Pks.nil | (with_reducible refine Pks.pure (by assumption) ?_) | (with_reducible apply Pks.cons; focus ((repeat (first | with_reducible exact Pk.here | with_reducible apply Pk.there)); done)) | (refine Pks.cons Pk.here ?_))) rfl rfl (by decide) (by exact Nat.le_of_ble_eq_true rfl) (by first | decide | omega) (fun r w1 hq => ?_) (fun E q w1 hq => hq.elim)
        obtain ⟨rfl, rfl⟩ := hq
        dsimp only [wM, PoM, List.cons_append, List.nil_append, Option.toList_some, Option.toList_none]
        rw [it_]
        refine g_iconst (v := 1) X dX3_placesIt_65 rfl ?_
        refine g_iadd X dX3_placesIt_66 ?_
        refine g_iald (17 + 3 * t' + 1) X dX3_placesIt_67 (by repeat (first | with_reducible exact Pk.here | with_reducible apply Pk.there)) (nI_1 _) (by omega) (by exact hM.2) ?_
        refine g_iload_n X dX3_placesIt_68 rfl rfl ?_
        refine g_icmp_ge (tgt := 76) X dX3_placesIt_69 (by decide) (fun c_69 => ?_) (fun c_69 => ?_)
        · refine g_iconst (v := 0) X dX3_placesIt_76 rfl ?_
          have h7 := (nI_leI (by omega) (by omega)).mp c_69
          exact J 0 (by simp [lkS, hc, bI]; omega)
        · refine g_iconst (v := 1) X dX3_placesIt_72 rfl ?_
          refine g_goto (tgt := 77) X dX3_placesIt_73 (by decide) ?_
          have h7 : c.2 < u' := Nat.lt_of_not_le fun q => c_69 ((nI_leI (by omega) (by omega)).mpr q)
          exact J 1 (by simp [lkS, hc, bI]; omega)
    · obtain rfl := hR1.trans (if_pos (bP_0.mp c_20))
      refine g_aload_n X dX3_placesIt_23 rfl rfl ?_
      refine g_iconst (v := 2) X dX3_placesIt_24 rfl ?_
      refine g_callV X dX3_placesIt_25 mv_X3_75 (c_X3_throwing hB) rfl cl_X3 (by repeat (first | with_reducible exact Rc.pt | with_reducible apply Rc.there)) (by repeat (first | with_reducible exact Pks.nil | (with_reducible refine Pks.pure (by assumption) ?_) | (with_reducible apply Pks.cons; focus ((repeat (first | with_reducible exact Pk.here | with_reducible apply Pk.there)); done)) | (refine Pks.cons Pk.here ?_))) rfl rfl (by decide) (by exact Nat.le_of_ble_eq_true rfl) (by first | decide | omega) (fun r w1 hq => ?_) (fun E q w1 hq => hq.elim)
      obtain ⟨rfl, rfl⟩ := hq
      dsimp only [wM, PoM, List.cons_append, List.nil_append, Option.toList_some, Option.toList_none]
      exact g_iret X Y dX3_placesIt_28 (rfl) (⟨_, 2, rfl, rfl, rfl, hE⟩) (Pks.tail (rest := _) (by repeat (first | with_reducible exact Pks.nil | (with_reducible refine Pks.pure (by assumption) ?_) | (with_reducible apply Pks.cons; focus ((repeat (first | with_reducible exact Pk.here | with_reducible apply Pk.there)); done)) | (refine Pks.cons Pk.here ?_))))
  · obtain rfl := hR.symm.trans (if_pos (bP_0.mp c_5))
    refine g_aload_n X dX3_placesIt_8 rfl rfl ?_
    refine g_iconst (v := 1) X dX3_placesIt_9 rfl ?_
    refine g_callV X dX3_placesIt_10 mv_X3_75 (c_X3_throwing hB) rfl cl_X3 (by repeat (first | with_reducible exact Rc.pt | with_reducible apply Rc.there)) (by repeat (first | with_reducible exact Pks.nil | (with_reducible refine Pks.pure (by assumption) ?_) | (with_reducible apply Pks.cons; focus ((repeat (first | with_reducible exact Pk.here | with_reducible apply Pk.there)); done)) | (refine Pks.cons Pk.here ?_))) rfl rfl (by decide) (by exact Nat.le_of_ble_eq_true rfl) (by first | decide | omega) (fun r w1 hq => ?_) (fun E q w1 hq => hq.elim)
    obtain ⟨rfl, rfl⟩ := hq
    dsimp only [wM, PoM, List.cons_append, List.nil_append, Option.toList_some, Option.toList_none]
    exact g_iret X Y dX3_placesIt_13 (rfl) (⟨_, 1, rfl, rfl, rfl, hE⟩) (Pks.tail (rest := _) (by repeat (first | with_reducible exact Pks.nil | (with_reducible refine Pks.pure (by assumption) ?_) | (with_reducible apply Pks.cons; focus ((repeat (first | with_reducible exact Pk.here | with_reducible apply Pk.there)); done)) | (refine Pks.cons Pk.here ?_))))
end MODEL
