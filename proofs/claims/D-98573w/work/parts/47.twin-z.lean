/-! THE REFERENCE: a city is read -/
set_option maxRecDepth 100000
def rd_ci1 (N : wt_It) (n : Nat) : wt_It := wt_up2 (wt_up2 (wt_up2 (wt_up2 (wt_up2 (wt_up2 (wt_up2 (wt_up2 (wt_up2 (wt_up2 (wt_up2 (wt_up2 N 0 15 (nI 0)) 0 17 (-1)) 0 16 (nI 0)) 0 19 (nI n)) 0 20 (nI 0)) 0 27 (nI 0)) 0 28 (nI 0)) 0 29 (nI 0)) 0 30 (nI 0)) 0 31 (nI 0)) 0 32 (-1)) 0 33 (nI 0)
def rd_ci0 (N : wt_It) (n : Nat) : wt_It := sp_fill (rd_ci1 N n) 37 100 (fun _ => nI 0)
def rd_ciL : Nat → wt_It → Int64 → wt_It × Int64
  | 0, M, w => (M, w)
  | f + 1, M, w => if M 0 16 = 0 then (if M 0 21 = 0 then (M, w) else rd_ciL f (rd_line M w).1 (rd_line M w).2) else (M, w)
/-- the text read -/
def rd_read (N : wt_It) (n : Nat) : wt_It × Int64 := rd_ciL 702 (rd_go (rd_ci0 N n)).1 (rd_go (rd_ci0 N n)).2
def sp_gb (b : Nat) (f : Nat → Int32) (n : Nat) (M : wt_It) : wt_It := fun k j => if k = 47 ∧ b ≤ j ∧ j < b + n then f (j - b) else M k j
theorem sp_gb_0 (b : Nat) (f : Nat → Int32) (M : wt_It) : sp_gb b f 0 M = M := by
  funext k j
  exact if_neg (fun z => by omega)
theorem sp_gb_up (b : Nat) (f : Nat → Int32) (n : Nat) (M : wt_It) : wt_up2 (sp_gb b f n M) 47 (b + n) (f n) = sp_gb b f (n + 1) M := by
  funext k j
  simp only [wt_up2, sp_gb]
  by_cases h1 : k = 47 ∧ j = b + n
  · rw [if_pos h1, if_pos ⟨h1.1, by omega, by omega⟩, h1.2, Nat.add_sub_cancel_left]
  · rw [if_neg h1]
    by_cases h2 : k = 47 ∧ b ≤ j ∧ j < b + n
    · rw [if_pos h2, if_pos ⟨h2.1, h2.2.1, by omega⟩]
    · rw [if_neg h2, if_neg (fun z => by
        by_cases e : j = b + n
        · exact h1 ⟨z.1, e⟩
        · exact h2 ⟨z.1, z.2.1, by omega⟩)]
theorem sp_gb_row {b : Nat} {f : Nat → Int32} {n : Nat} {M : wt_It} {k : Nat} (h : k ≠ 47) : sp_gb b f n M k = M k := by
  funext j
  exact if_neg (fun z => h z.1)
def rd_se1 (M : wt_It) : wt_It := wt_up2 (wt_up2 (wt_up2 (wt_up2 (wt_up2 (wt_up2 M 0 1 (M 0 27)) 0 2 (M 0 28)) 0 3 (M 0 29)) 0 4 (M 0 30)) 0 5 (M 0 31)) 0 6 (if M 0 32 = -1 then nI 360 else M 0 32)
def rd_se2 (M : wt_It) : wt_It := sp_cp (sp_cp (sp_cp (sp_cp (sp_cp (sp_cp (sp_cp (rd_se1 M) 37 7 100) 38 8 5) 40 9 5) 41 10 40) 42 11 32) 43 12 4) 44 13 2800
def rd_se3 (M : wt_It) : wt_It := wt_up2 (wt_up2 (wt_up2 (wt_up2 (rd_se2 M) 47 0 (if M 0 31 ≤ 0 then -1 else nI 0)) 47 1 (nI 0)) 47 2 (nI 0)) 47 3 (nI 0)
def rd_se4 (M : wt_It) : wt_It := sp_gb 14 (M 39) 5 (sp_gb 4 (M 36) 10 (rd_se3 M))
/-- the city put in place -/
def rd_set (M : wt_It) : wt_It := wt_up2 (wt_up2 (wt_up2 (wt_up2 (sp_meas (rd_se4 M) (nn (M 0 27))) 0 50 (nI 0)) 0 67 (nI 0)) 0 65 (nI 0)) 0 70 (nI 0)
def rd_ciV (R : wt_It) : Int32 := if R 0 16 = 0 then nI 0 else R 0 16
def rd_ciM (R : wt_It) : wt_It := if R 0 16 = 0 then rd_set R else wt_up2 R 18 0 (R 18 0 + nI 1)
section TZ
variable {l : Launch} {G : wt_G} {Z : Heap → Prop} {T : tw_T} {M N : wt_It} {w : Int64}
theorem ct_cityBad (hE : tw_E G T) (hN : sp_t0 M = N) (k : Int32) (hk : ¬ (0 ≤ k ∧ k ≤ N 0 15)) : wt_Ct l G yX3_city cX3_city 3 (some .int) 8 0 0 [.ref T.1, .int k] (tw_Z G T M w) (wt_fn 0 (tw_Z G T (wt_up2 N 0 0 1) w)) := by
  have h0 : N 0 0 = 0 := by rw [← hN]; rfl
  refine wt_enter [some (.ref T.1), some (.int k), none] (by decide +kernel) rfl (Nat.le_of_ble_eq_true rfl) (fun X hc hok => ?_)
  have key : wt_V G X 22 [some (.ref T.1), some (.int k), none] [.ref T.1] (tw_Z G T N w) 0 0 := by
    refine wt_iconst (pc := 22) (v := nI 0) hc dX3_city_22 (by decide) ?_
    refine wt_iconst (pc := 23) (v := nI 1) hc dX3_city_23 (by decide) ?_
    refine wt_gofn (tw_inv (pc := 24) 2 hc hE (ct_right0 hE h0 _ _) dX3_city_24 rfl q1850 q1852 qs54 q116 q1853 (by decide +kernel) rfl (by decide) (by decide) (Nat.le_of_ble_eq_true rfl) rfl) ?_
    rw [if_pos (show nI 0 = 0 from rfl), sp_b_f (show ¬ (¬ nI 0 = 0 ∨ nI 1 = 0) from fun z => z.elim (fun z => z rfl) (by decide))]
    refine wt_if_ne (pc := 27) 32 hc dX3_city_27 (by decide) (fun c_27 => ?_) (fun c_27 => ?_)
    · exact absurd rfl c_27
    · refine wt_iconst (pc := 30) (v := nI 0) hc dX3_city_30 (by decide) ?_
      exact wt_iret (pc := 31) hc hok dX3_city_31 (rfl) (fun H hZ => ⟨rfl, hZ⟩)
  refine wt_aload_0 (pc := 0) hc dX3_city_0 ?_
  refine wt_iconst (pc := 1) (v := nI 0) hc dX3_city_1 (by decide) ?_
  refine tw_put (pc := 2) 0 hc hE dX3_city_2 q1604 (by decide) (fun _ _ _ => rfl) rfl rfl (rfl) rfl ?_
  refine tw_eq hN ?_
  refine wt_aload_0 (pc := 5) hc dX3_city_5 ?_
  refine wt_iload_1 (pc := 6) hc dX3_city_6 ?_
  refine wt_if_lt (pc := 7) 22 hc dX3_city_7 (by decide) (fun c_7 => ?_) (fun c_7 => ?_)
  · exact key
  · refine wt_iload_1 (pc := 10) hc dX3_city_10 ?_
    refine wt_aload_0 (pc := 11) hc dX3_city_11 ?_
    refine tw_get (pc := 12) 15 _ hc hE dX3_city_12 q1619 (by decide) (fun _ _ _ => rfl) rfl (rfl) ?_
    refine wt_icmp_gt (pc := 15) 22 hc dX3_city_15 (by decide) (fun c_15 => ?_) (fun c_15 => ?_)
    · exact key
    · exact absurd ⟨Int32.not_lt.mp c_7, Int32.not_lt.mp c_15⟩ hk
theorem ct_city (hE : tw_E G T) (hN : sp_t0 M = N) (tp n : Nat) (et : N 0 15 = nI tp) (htp : tp ≤ 700) (hn : n ≤ tp) : wt_Ct l G yX3_city cX3_city 3 (some .int) 8 0 0 [.ref T.1, .int (nI n)] (tw_Z G T M w) (wt_fn (rd_ciV (rd_read N n).1) (tw_Z G T (rd_ciM (rd_read N n).1) (rd_read N n).2)) := by
  have h0 : N 0 0 = 0 := by rw [← hN]; rfl
  refine wt_enter [some (.ref T.1), some (.int (nI n)), none] (by decide +kernel) rfl (Nat.le_of_ble_eq_true rfl) (fun X hc hok => ?_)
  have lastG : ∀ (R : wt_It) (v : Int64) (r u : Nat), R 0 16 = 0 → rd_read N n = (R, v) → R 0 27 = nI r → r ≤ 10 → R 0 31 = nI u → wt_V G X 160 [some (.ref T.1), none, none] [] (tw_Z G T R v) 0 0 := by
    intro R v r u hg hv e27 hr e31
    rw [hv] at hok
    replace hok : wt_ok G X (some .int) (wt_fn (rd_ciV R) (tw_Z G T (rd_ciM R) v)) := hok
    unfold rd_ciV rd_ciM at hok
    rw [if_pos hg, if_pos hg] at hok
    have tail : wt_V G X 401 [some (.ref T.1), none, none] [] (tw_Z G T (rd_se4 R) v) 0 0 := by
      have e1 : rd_se4 R 0 1 = nI r := by
        unfold rd_se4 rd_se3 rd_se2
        rw [sp_gb_row (by decide), sp_gb_row (by decide), wt_up2_row (by decide), wt_up2_row (by decide), wt_up2_row (by decide), wt_up2_row (by decide), sp_cp_row (by decide), sp_cp_row (by decide), sp_cp_row (by decide), sp_cp_row (by decide), sp_cp_row (by decide), sp_cp_row (by decide), sp_cp_row (by decide)]
        exact e27
      unfold rd_set at hok
      rw [e27, nn_nI (by omega)] at hok
      refine wt_aload_0 (pc := 401) hc dX3_city_401 ?_
      refine wt_gov (tw_inv (pc := 402) 0 hc hE (ct_measures hE r hr e1) dX3_city_402 rfl q1969 q1971 qs79 q116 q1972 (by decide +kernel) rfl (by decide) (by decide) (Nat.le_of_ble_eq_true rfl) rfl) (Nat.zero_le _) (Nat.zero_le _) ?_
      refine wt_aload_0 (pc := 405) hc dX3_city_405 ?_
      refine wt_iconst (pc := 406) (v := nI 0) hc dX3_city_406 (by decide) ?_
      refine tw_put (pc := 407) 50 hc hE dX3_city_407 q1654 (by decide) (fun _ _ _ => rfl) rfl rfl (rfl) rfl ?_
      refine wt_aload_0 (pc := 410) hc dX3_city_410 ?_
      refine wt_iconst (pc := 411) (v := nI 0) hc dX3_city_411 (by decide) ?_
      refine tw_put (pc := 412) 67 hc hE dX3_city_412 q1671 (by decide) (fun _ _ _ => rfl) rfl rfl (rfl) rfl ?_
      refine wt_aload_0 (pc := 415) hc dX3_city_415 ?_
      refine wt_iconst (pc := 416) (v := nI 0) hc dX3_city_416 (by decide) ?_
      refine tw_put (pc := 417) 65 hc hE dX3_city_417 q1669 (by decide) (fun _ _ _ => rfl) rfl rfl (rfl) rfl ?_
      refine wt_aload_0 (pc := 420) hc dX3_city_420 ?_
      refine wt_iconst (pc := 421) (v := nI 0) hc dX3_city_421 (by decide) ?_
      refine tw_put (pc := 422) 70 hc hE dX3_city_422 q1674 (by decide) (fun _ _ _ => rfl) rfl rfl (rfl) rfl ?_
      refine wt_iconst (pc := 425) (v := nI 0) hc dX3_city_425 (by decide) ?_
      exact wt_iret (pc := 426) hc hok dX3_city_426 (rfl) (fun H hZ => ⟨rfl, hZ⟩)
    have lm : ∀ (k j : Nat), j + k = 5 → wt_V G X 375 [some (.ref T.1), none, some (.int (nI j))] [] (tw_Z G T (sp_gb 14 (R 39) j (sp_gb 4 (R 36) 10 (rd_se3 R))) v) 0 0 := by
      intro k
      induction k with
      | zero =>
        intro j hj
        have e : j = 5 := by omega
        subst e
        refine wt_iload_2 (pc := 375) hc dX3_city_375 ?_
        refine wt_iconst (pc := 376) (v := nI 5) hc dX3_city_376 (by decide) ?_
        refine wt_nicmp_ge (pc := 377) 401 (5) (5) hc dX3_city_377 (by decide) (by omega) (by omega) (fun c_377 => ?_) (fun c_377 => ?_)
        · exact wt_drop tail ⟨rfl, trivial⟩
        · omega
      | succ k ih =>
        intro j hj
        have e39 : sp_gb 14 (R 39) j (sp_gb 4 (R 36) 10 (rd_se3 R)) 39 j = R 39 j := by
          rw [sp_gb_row (by decide), sp_gb_row (by decide)]
          unfold rd_se3 rd_se2
          rw [wt_up2_row (by decide), wt_up2_row (by decide), wt_up2_row (by decide), wt_up2_row (by decide), sp_cp_row (by decide), sp_cp_row (by decide), sp_cp_row (by decide), sp_cp_row (by decide), sp_cp_row (by decide), sp_cp_row (by decide), sp_cp_row (by decide)]
          rfl
        refine wt_iload_2 (pc := 375) hc dX3_city_375 ?_
        refine wt_iconst (pc := 376) (v := nI 5) hc dX3_city_376 (by decide) ?_
        refine wt_nicmp_ge (pc := 377) 401 (j) (5) hc dX3_city_377 (by decide) (by omega) (by omega) (fun c_377 => ?_) (fun c_377 => ?_)
        · omega
        · refine wt_aload_0 (pc := 380) hc dX3_city_380 ?_
          refine tw_geta (pc := 381) 47 hc hE dX3_city_381 q1651 (by decide) (by decide) (fun _ _ _ => rfl) rfl ?_
          refine wt_bipush (pc := 384) (v := nI 14) hc dX3_city_384 (by decide) ?_
          refine wt_iload_2 (pc := 386) hc dX3_city_386 ?_
          refine wt_iadd (pc := 387) hc dX3_city_387 ?_
          rw [nI_add 14 j]
          refine wt_aload_0 (pc := 388) hc dX3_city_388 ?_
          refine tw_geta (pc := 389) 39 hc hE dX3_city_389 q1643 (by decide) (by decide) (fun _ _ _ => rfl) rfl ?_
          refine wt_iload_2 (pc := 392) hc dX3_city_392 ?_
          refine tw_iald (pc := 393) (k := 39) (j) (R 39 j) hc hE dX3_city_393 rfl (rfl) (by show _ < 5; omega) (by decide) (e39) ?_
          refine tw_iast (pc := 394) (k := 47) (14 + j) hc hE dX3_city_394 rfl (rfl) (by show _ < 19; omega) (by decide) ?_
          refine tw_eq (sp_gb_up 14 (R 39) j _) ?_
          refine wt_iinc_2 (pc := 395) (v := nI (j + 1)) hc dX3_city_395 (nI_add j 1) rfl ?_
          refine wt_goto (pc := 398) 375 hc dX3_city_398 (by decide) ?_
          exact ih (j + 1) (by omega)
    have lg : ∀ (k j : Nat), j + k = 10 → wt_V G X 347 [some (.ref T.1), none, some (.int (nI j))] [] (tw_Z G T (sp_gb 4 (R 36) j (rd_se3 R)) v) 0 0 := by
      intro k
      induction k with
      | zero =>
        intro j hj
        have e : j = 10 := by omega
        subst e
        have l0 := lm 5 0 (by omega)
        rw [sp_gb_0] at l0
        refine wt_iload_2 (pc := 347) hc dX3_city_347 ?_
        refine wt_bipush (pc := 348) (v := nI 10) hc dX3_city_348 (by decide) ?_
        refine wt_nicmp_ge (pc := 350) 373 (10) (10) hc dX3_city_350 (by decide) (by omega) (by omega) (fun c_350 => ?_) (fun c_350 => ?_)
        · refine wt_iconst (pc := 373) (v := nI 0) hc dX3_city_373 (by decide) ?_
          refine wt_istore_2 (pc := 374) hc dX3_city_374 rfl ?_
          exact l0
        · omega
      | succ k ih =>
        intro j hj
        have e36 : sp_gb 4 (R 36) j (rd_se3 R) 36 j = R 36 j := by
          rw [sp_gb_row (by decide)]
          unfold rd_se3 rd_se2
          rw [wt_up2_row (by decide), wt_up2_row (by decide), wt_up2_row (by decide), wt_up2_row (by decide), sp_cp_row (by decide), sp_cp_row (by decide), sp_cp_row (by decide), sp_cp_row (by decide), sp_cp_row (by decide), sp_cp_row (by decide), sp_cp_row (by decide)]
          rfl
        refine wt_iload_2 (pc := 347) hc dX3_city_347 ?_
        refine wt_bipush (pc := 348) (v := nI 10) hc dX3_city_348 (by decide) ?_
        refine wt_nicmp_ge (pc := 350) 373 (j) (10) hc dX3_city_350 (by decide) (by omega) (by omega) (fun c_350 => ?_) (fun c_350 => ?_)
        · omega
        · refine wt_aload_0 (pc := 353) hc dX3_city_353 ?_
          refine tw_geta (pc := 354) 47 hc hE dX3_city_354 q1651 (by decide) (by decide) (fun _ _ _ => rfl) rfl ?_
          refine wt_iconst (pc := 357) (v := nI 4) hc dX3_city_357 (by decide) ?_
          refine wt_iload_2 (pc := 358) hc dX3_city_358 ?_
          refine wt_iadd (pc := 359) hc dX3_city_359 ?_
          rw [nI_add 4 j]
          refine wt_aload_0 (pc := 360) hc dX3_city_360 ?_
          refine tw_geta (pc := 361) 36 hc hE dX3_city_361 q1640 (by decide) (by decide) (fun _ _ _ => rfl) rfl ?_
          refine wt_iload_2 (pc := 364) hc dX3_city_364 ?_
          refine tw_iald (pc := 365) (k := 36) (j) (R 36 j) hc hE dX3_city_365 rfl (rfl) (by show _ < 10; omega) (by decide) (e36) ?_
          refine tw_iast (pc := 366) (k := 47) (4 + j) hc hE dX3_city_366 rfl (rfl) (by show _ < 19; omega) (by decide) ?_
          refine tw_eq (sp_gb_up 4 (R 36) j _) ?_
          refine wt_iinc_2 (pc := 367) (v := nI (j + 1)) hc dX3_city_367 (nI_add j 1) rfl ?_
          refine wt_goto (pc := 370) 347 hc dX3_city_370 (by decide) ?_
          exact ih (j + 1) (by omega)
    have l0 := lg 10 0 (by omega)
    rw [sp_gb_0] at l0
    have s323 : ∀ x : Int32, x = (if R 0 31 ≤ 0 then -1 else nI 0) → wt_V G X 323 [some (.ref T.1), none, none] [.int x, .int (nI 0), .ref (T.2.1 47)] (tw_Z G T (rd_se2 R) v) 0 0 := by
      intro x ex
      subst ex
      refine tw_iast (pc := 323) (k := 47) (0) hc hE dX3_city_323 rfl (rfl) (by show _ < 19; omega) (by decide) ?_
      refine wt_aload_0 (pc := 324) hc dX3_city_324 ?_
      refine tw_geta (pc := 325) 47 hc hE dX3_city_325 q1651 (by decide) (by decide) (fun _ _ _ => rfl) rfl ?_
      refine wt_iconst (pc := 328) (v := nI 1) hc dX3_city_328 (by decide) ?_
      refine wt_iconst (pc := 329) (v := nI 0) hc dX3_city_329 (by decide) ?_
      refine tw_iast (pc := 330) (k := 47) (1) hc hE dX3_city_330 rfl (rfl) (by show _ < 19; omega) (by decide) ?_
      refine wt_aload_0 (pc := 331) hc dX3_city_331 ?_
      refine tw_geta (pc := 332) 47 hc hE dX3_city_332 q1651 (by decide) (by decide) (fun _ _ _ => rfl) rfl ?_
      refine wt_iconst (pc := 335) (v := nI 2) hc dX3_city_335 (by decide) ?_
      refine wt_iconst (pc := 336) (v := nI 0) hc dX3_city_336 (by decide) ?_
      refine tw_iast (pc := 337) (k := 47) (2) hc hE dX3_city_337 rfl (rfl) (by show _ < 19; omega) (by decide) ?_
      refine wt_aload_0 (pc := 338) hc dX3_city_338 ?_
      refine tw_geta (pc := 339) 47 hc hE dX3_city_339 q1651 (by decide) (by decide) (fun _ _ _ => rfl) rfl ?_
      refine wt_iconst (pc := 342) (v := nI 3) hc dX3_city_342 (by decide) ?_
      refine wt_iconst (pc := 343) (v := nI 0) hc dX3_city_343 (by decide) ?_
      refine tw_iast (pc := 344) (k := 47) (3) hc hE dX3_city_344 rfl (rfl) (by show _ < 19; omega) (by decide) ?_
      refine wt_iconst (pc := 345) (v := nI 0) hc dX3_city_345 (by decide) ?_
      refine wt_istore_2 (pc := 346) hc dX3_city_346 rfl ?_
      exact l0
    have e5 : rd_se2 R 0 5 = R 0 31 := by
      unfold rd_se2
      rw [sp_cp_row (by decide), sp_cp_row (by decide), sp_cp_row (by decide), sp_cp_row (by decide), sp_cp_row (by decide), sp_cp_row (by decide), sp_cp_row (by decide)]
      rfl
    have s306 : wt_V G X 306 [some (.ref T.1), none, none] [] (tw_Z G T (rd_se2 R) v) 0 0 := by
      refine wt_aload_0 (pc := 306) hc dX3_city_306 ?_
      refine tw_geta (pc := 307) 47 hc hE dX3_city_307 q1651 (by decide) (by decide) (fun _ _ _ => rfl) rfl ?_
      refine wt_iconst (pc := 310) (v := nI 0) hc dX3_city_310 (by decide) ?_
      refine wt_aload_0 (pc := 311) hc dX3_city_311 ?_
      refine tw_get (pc := 312) 5 (R 0 31) hc hE dX3_city_312 q1609 (by decide) (fun _ _ _ => rfl) rfl (e5) ?_
      refine wt_if_le (pc := 315) 322 hc dX3_city_315 (by decide) (fun c_315 => ?_) (fun c_315 => ?_)
      · refine wt_iconst (pc := 322) (v := (-1 : Int32)) hc dX3_city_322 (by decide) ?_
        exact s323 _ (by first | rw [if_pos c_315] | rw [if_neg c_315])
      · refine wt_iconst (pc := 318) (v := nI 0) hc dX3_city_318 (by decide) ?_
        refine wt_goto (pc := 319) 323 hc dX3_city_319 (by decide) ?_
        exact s323 _ (by first | rw [if_pos c_315] | rw [if_neg c_315])
    have s222 : wt_V G X 222 [some (.ref T.1), none, none] [] (tw_Z G T (rd_se1 R) v) 0 0 := by
      refine wt_aload_0 (pc := 222) hc dX3_city_222 ?_
      refine wt_aload_0 (pc := 223) hc dX3_city_223 ?_
      refine tw_geta (pc := 224) 37 hc hE dX3_city_224 q1641 (by decide) (by decide) (fun _ _ _ => rfl) rfl ?_
      refine wt_aload_0 (pc := 227) hc dX3_city_227 ?_
      refine tw_geta (pc := 228) 7 hc hE dX3_city_228 q1611 (by decide) (by decide) (fun _ _ _ => rfl) rfl ?_
      refine wt_gov (tw_inv (pc := 231) 2 hc hE (ct_copies hE 37 7 (by decide) (by decide) (by decide) (by decide) rfl rfl) dX3_city_231 rfl q1965 q1967 qs78 q116 q1968 (by decide +kernel) rfl (by decide) (by decide) (Nat.le_of_ble_eq_true rfl) rfl) (Nat.zero_le _) (Nat.zero_le _) ?_
      refine wt_aload_0 (pc := 234) hc dX3_city_234 ?_
      refine wt_aload_0 (pc := 235) hc dX3_city_235 ?_
      refine tw_geta (pc := 236) 38 hc hE dX3_city_236 q1642 (by decide) (by decide) (fun _ _ _ => rfl) rfl ?_
      refine wt_aload_0 (pc := 239) hc dX3_city_239 ?_
      refine tw_geta (pc := 240) 8 hc hE dX3_city_240 q1612 (by decide) (by decide) (fun _ _ _ => rfl) rfl ?_
      refine wt_gov (tw_inv (pc := 243) 2 hc hE (ct_copies hE 38 8 (by decide) (by decide) (by decide) (by decide) rfl rfl) dX3_city_243 rfl q1965 q1967 qs78 q116 q1968 (by decide +kernel) rfl (by decide) (by decide) (Nat.le_of_ble_eq_true rfl) rfl) (Nat.zero_le _) (Nat.zero_le _) ?_
      refine wt_aload_0 (pc := 246) hc dX3_city_246 ?_
      refine wt_aload_0 (pc := 247) hc dX3_city_247 ?_
      refine tw_geta (pc := 248) 40 hc hE dX3_city_248 q1644 (by decide) (by decide) (fun _ _ _ => rfl) rfl ?_
      refine wt_aload_0 (pc := 251) hc dX3_city_251 ?_
      refine tw_geta (pc := 252) 9 hc hE dX3_city_252 q1613 (by decide) (by decide) (fun _ _ _ => rfl) rfl ?_
      refine wt_gov (tw_inv (pc := 255) 2 hc hE (ct_copies hE 40 9 (by decide) (by decide) (by decide) (by decide) rfl rfl) dX3_city_255 rfl q1965 q1967 qs78 q116 q1968 (by decide +kernel) rfl (by decide) (by decide) (Nat.le_of_ble_eq_true rfl) rfl) (Nat.zero_le _) (Nat.zero_le _) ?_
      refine wt_aload_0 (pc := 258) hc dX3_city_258 ?_
      refine wt_aload_0 (pc := 259) hc dX3_city_259 ?_
      refine tw_geta (pc := 260) 41 hc hE dX3_city_260 q1645 (by decide) (by decide) (fun _ _ _ => rfl) rfl ?_
      refine wt_aload_0 (pc := 263) hc dX3_city_263 ?_
      refine tw_geta (pc := 264) 10 hc hE dX3_city_264 q1614 (by decide) (by decide) (fun _ _ _ => rfl) rfl ?_
      refine wt_gov (tw_inv (pc := 267) 2 hc hE (ct_copies hE 41 10 (by decide) (by decide) (by decide) (by decide) rfl rfl) dX3_city_267 rfl q1965 q1967 qs78 q116 q1968 (by decide +kernel) rfl (by decide) (by decide) (Nat.le_of_ble_eq_true rfl) rfl) (Nat.zero_le _) (Nat.zero_le _) ?_
      refine wt_aload_0 (pc := 270) hc dX3_city_270 ?_
      refine wt_aload_0 (pc := 271) hc dX3_city_271 ?_
      refine tw_geta (pc := 272) 42 hc hE dX3_city_272 q1646 (by decide) (by decide) (fun _ _ _ => rfl) rfl ?_
      refine wt_aload_0 (pc := 275) hc dX3_city_275 ?_
      refine tw_geta (pc := 276) 11 hc hE dX3_city_276 q1615 (by decide) (by decide) (fun _ _ _ => rfl) rfl ?_
      refine wt_gov (tw_inv (pc := 279) 2 hc hE (ct_copies hE 42 11 (by decide) (by decide) (by decide) (by decide) rfl rfl) dX3_city_279 rfl q1965 q1967 qs78 q116 q1968 (by decide +kernel) rfl (by decide) (by decide) (Nat.le_of_ble_eq_true rfl) rfl) (Nat.zero_le _) (Nat.zero_le _) ?_
      refine wt_aload_0 (pc := 282) hc dX3_city_282 ?_
      refine wt_aload_0 (pc := 283) hc dX3_city_283 ?_
      refine tw_geta (pc := 284) 43 hc hE dX3_city_284 q1647 (by decide) (by decide) (fun _ _ _ => rfl) rfl ?_
      refine wt_aload_0 (pc := 287) hc dX3_city_287 ?_
      refine tw_geta (pc := 288) 12 hc hE dX3_city_288 q1616 (by decide) (by decide) (fun _ _ _ => rfl) rfl ?_
      refine wt_gov (tw_inv (pc := 291) 2 hc hE (ct_copies hE 43 12 (by decide) (by decide) (by decide) (by decide) rfl rfl) dX3_city_291 rfl q1965 q1967 qs78 q116 q1968 (by decide +kernel) rfl (by decide) (by decide) (Nat.le_of_ble_eq_true rfl) rfl) (Nat.zero_le _) (Nat.zero_le _) ?_
      refine wt_aload_0 (pc := 294) hc dX3_city_294 ?_
      refine wt_aload_0 (pc := 295) hc dX3_city_295 ?_
      refine tw_geta (pc := 296) 44 hc hE dX3_city_296 q1648 (by decide) (by decide) (fun _ _ _ => rfl) rfl ?_
      refine wt_aload_0 (pc := 299) hc dX3_city_299 ?_
      refine tw_geta (pc := 300) 13 hc hE dX3_city_300 q1617 (by decide) (by decide) (fun _ _ _ => rfl) rfl ?_
      refine wt_gov (tw_inv (pc := 303) 2 hc hE (ct_copies hE 44 13 (by decide) (by decide) (by decide) (by decide) rfl rfl) dX3_city_303 rfl q1965 q1967 qs78 q116 q1968 (by decide +kernel) rfl (by decide) (by decide) (Nat.le_of_ble_eq_true rfl) rfl) (Nat.zero_le _) (Nat.zero_le _) ?_
      exact s306
    have s219 : ∀ x : Int32, x = (if R 0 32 = -1 then nI 360 else R 0 32) → wt_V G X 219 [some (.ref T.1), none, none] [.int x, .ref T.1] (tw_Z G T (wt_up2 (wt_up2 (wt_up2 (wt_up2 (wt_up2 R 0 1 (R 0 27)) 0 2 (R 0 28)) 0 3 (R 0 29)) 0 4 (R 0 30)) 0 5 (R 0 31)) v) 0 0 := by
      intro x ex
      subst ex
      refine tw_put (pc := 219) 6 hc hE dX3_city_219 q1610 (by decide) (fun _ _ _ => rfl) rfl rfl (rfl) rfl ?_
      exact s222
    refine wt_aload_0 (pc := 160) hc dX3_city_160 ?_
    refine wt_aload_0 (pc := 161) hc dX3_city_161 ?_
    refine tw_get (pc := 162) 27 _ hc hE dX3_city_162 q1631 (by decide) (fun _ _ _ => rfl) rfl (rfl) ?_
    refine tw_put (pc := 165) 1 hc hE dX3_city_165 q1605 (by decide) (fun _ _ _ => rfl) rfl rfl (rfl) rfl ?_
    refine wt_aload_0 (pc := 168) hc dX3_city_168 ?_
    refine wt_aload_0 (pc := 169) hc dX3_city_169 ?_
    refine tw_get (pc := 170) 28 _ hc hE dX3_city_170 q1632 (by decide) (fun _ _ _ => rfl) rfl (rfl) ?_
    refine tw_put (pc := 173) 2 hc hE dX3_city_173 q1606 (by decide) (fun _ _ _ => rfl) rfl rfl (rfl) rfl ?_
    refine wt_aload_0 (pc := 176) hc dX3_city_176 ?_
    refine wt_aload_0 (pc := 177) hc dX3_city_177 ?_
    refine tw_get (pc := 178) 29 _ hc hE dX3_city_178 q1633 (by decide) (fun _ _ _ => rfl) rfl (rfl) ?_
    refine tw_put (pc := 181) 3 hc hE dX3_city_181 q1607 (by decide) (fun _ _ _ => rfl) rfl rfl (rfl) rfl ?_
    refine wt_aload_0 (pc := 184) hc dX3_city_184 ?_
    refine wt_aload_0 (pc := 185) hc dX3_city_185 ?_
    refine tw_get (pc := 186) 30 _ hc hE dX3_city_186 q1634 (by decide) (fun _ _ _ => rfl) rfl (rfl) ?_
    refine tw_put (pc := 189) 4 hc hE dX3_city_189 q1608 (by decide) (fun _ _ _ => rfl) rfl rfl (rfl) rfl ?_
    refine wt_aload_0 (pc := 192) hc dX3_city_192 ?_
    refine wt_aload_0 (pc := 193) hc dX3_city_193 ?_
    refine tw_get (pc := 194) 31 _ hc hE dX3_city_194 q1635 (by decide) (fun _ _ _ => rfl) rfl (rfl) ?_
    refine tw_put (pc := 197) 5 hc hE dX3_city_197 q1609 (by decide) (fun _ _ _ => rfl) rfl rfl (rfl) rfl ?_
    refine wt_aload_0 (pc := 200) hc dX3_city_200 ?_
    refine wt_aload_0 (pc := 201) hc dX3_city_201 ?_
    refine tw_get (pc := 202) 32 _ hc hE dX3_city_202 q1636 (by decide) (fun _ _ _ => rfl) rfl (rfl) ?_
    refine wt_iconst (pc := 205) (v := (-1 : Int32)) hc dX3_city_205 (by decide) ?_
    refine wt_icmp_ne (pc := 206) 215 hc dX3_city_206 (by decide) (fun c_206 => ?_) (fun c_206 => ?_)
    · refine wt_aload_0 (pc := 215) hc dX3_city_215 ?_
      refine tw_get (pc := 216) 32 _ hc hE dX3_city_216 q1636 (by decide) (fun _ _ _ => rfl) rfl (rfl) ?_
      exact s219 _ (by first | exact (if_pos c_206).symm | exact (if_neg c_206).symm)
    · refine wt_sipush (pc := 209) (v := nI 360) hc dX3_city_209 (by decide) ?_
      refine wt_goto (pc := 212) 219 hc dX3_city_212 (by decide) ?_
      exact s219 _ (by first | exact (if_pos c_206).symm | exact (if_neg c_206).symm)
  have lastB : ∀ (R : wt_It) (v : Int64), ¬ R 0 16 = 0 → rd_read N n = (R, v) → wt_V G X 145 [some (.ref T.1), none, none] [] (tw_Z G T R v) 0 0 := by
    intro R v hg hv
    rw [hv] at hok
    replace hok : wt_ok G X (some .int) (wt_fn (rd_ciV R) (tw_Z G T (rd_ciM R) v)) := hok
    unfold rd_ciV rd_ciM at hok
    rw [if_neg hg, if_neg hg] at hok
    refine wt_aload_0 (pc := 145) hc dX3_city_145 ?_
    refine tw_geta (pc := 146) 18 hc hE dX3_city_146 q1622 (by decide) (by decide) (fun _ _ _ => rfl) rfl ?_
    refine wt_iconst (pc := 149) (v := nI 0) hc dX3_city_149 (by decide) ?_
    refine wt_dup2 (pc := 150) hc dX3_city_150 rfl rfl ?_
    refine tw_iald (pc := 151) (k := 18) (0) _ hc hE dX3_city_151 rfl (rfl) (by show _ < 3; omega) (by decide) (rfl) ?_
    refine wt_iconst (pc := 152) (v := nI 1) hc dX3_city_152 (by decide) ?_
    refine wt_iadd (pc := 153) hc dX3_city_153 ?_
    refine tw_iast (pc := 154) (k := 18) (0) hc hE dX3_city_154 rfl (rfl) (by show _ < 3; omega) (by decide) ?_
    refine wt_aload_0 (pc := 155) hc dX3_city_155 ?_
    refine tw_get (pc := 156) 16 _ hc hE dX3_city_156 q1620 (by decide) (fun _ _ _ => rfl) rfl (rfl) ?_
    exact wt_iret (pc := 159) hc hok dX3_city_159 (rfl) (fun H hZ => ⟨rfl, hZ⟩)
  have fin : ∀ (R : wt_It) (v : Int64) (r u : Nat), rd_read N n = (R, v) → (R 0 16 = 0 → R 0 27 = nI r ∧ r ≤ 10 ∧ R 0 31 = nI u) → wt_V G X 138 [some (.ref T.1), none, none] [] (tw_Z G T R v) 0 0 := by
    intro R v r u hv hgood
    refine wt_aload_0 (pc := 138) hc dX3_city_138 ?_
    refine wt_gofn (tw_inv (pc := 139) 0 hc hE (ct_isGood hE) dX3_city_139 rfl q1868 q1870 qs57 q116 q1871 (by decide +kernel) rfl (by decide) (by decide) (Nat.le_of_ble_eq_true rfl) rfl) ?_
    refine wt_if_ne (pc := 142) 160 hc dX3_city_142 (by decide) (fun c_142 => ?_) (fun c_142 => ?_)
    · exact lastG R v r u (sp_b_n0 c_142) hv (hgood (sp_b_n0 c_142)).1 (hgood (sp_b_n0 c_142)).2.1 (hgood (sp_b_n0 c_142)).2.2
    · exact lastB R v (sp_b_0.mp c_142) hv
  have loop : ∀ (f : Nat) (A : wt_It) (v : Int64), (A 0 16 = 0 → ∃ a r f' o i u t, rd_I A n a r f' o i u t ∧ t ≤ 2 * a ∧ 702 ≤ f + a) → (¬ A 0 16 = 0 → 1 ≤ f) → rd_read N n = rd_ciL f A v → wt_V G X 117 [some (.ref T.1), none, none] [] (tw_Z G T A v) 0 0 := by
    intro f
    induction f with
    | zero =>
      intro A v h1 h2 hv
      exfalso
      by_cases hg : A 0 16 = 0
      · obtain ⟨a, r, f', o, i, u, t, ⟨⟨p, q, haq, hY⟩, -⟩, -, h3⟩ := h1 hg
        have := hY.1
        have := hY.2.1
        have := hY.2.2.1
        omega
      · have := h2 hg
        omega
    | succ f ih =>
      intro A v h1 h2 hv
      rw [rd_ciL] at hv
      by_cases hg : A 0 16 = 0
      · rw [if_pos hg] at hv
        obtain ⟨a, r, f', o, i, u, t, hI, ht, h3⟩ := h1 hg
        have hr10 := hI.2.2.2.2.2.2.2.1
        have e27 := hI.2.1
        have e31 := hI.2.2.2.2.2.1
        refine wt_aload_0 (pc := 117) hc dX3_city_117 ?_
        refine wt_gofn (tw_inv (pc := 118) 0 hc hE (ct_isGood hE) dX3_city_118 rfl q1868 q1870 qs57 q116 q1871 (by decide +kernel) rfl (by decide) (by decide) (Nat.le_of_ble_eq_true rfl) rfl) ?_
        refine wt_if_eq (pc := 121) 138 hc dX3_city_121 (by decide) (fun c_121 => ?_) (fun c_121 => ?_)
        · exact absurd hg (sp_b_0.mp c_121)
        · refine wt_aload_0 (pc := 124) hc dX3_city_124 ?_
          refine tw_get (pc := 125) 21 _ hc hE dX3_city_125 q1625 (by decide) (fun _ _ _ => rfl) rfl (rfl) ?_
          refine wt_if_eq (pc := 128) 138 hc dX3_city_128 (by decide) (fun c_128 => ?_) (fun c_128 => ?_)
          · rw [if_pos c_128] at hv
            exact fin A v r u hv (fun _ => ⟨e27, hr10, e31⟩)
          · rw [if_neg c_128] at hv
            obtain ⟨⟨p, q, haq, hY⟩, -⟩ := id hI
            have hq7 : q ≤ 700 := by have := hY.1; have := hY.2.1; have := hY.2.2.1; omega
            refine wt_aload_0 (pc := 131) hc dX3_city_131 ?_
            refine wt_gov (tw_inv (pc := 132) 0 hc hE (ct_line hE n a r f' o i u t hI hg ht) dX3_city_132 rfl q1872 q1874 qs58 q116 q1875 (by decide +kernel) rfl (by decide) (by decide) (Nat.le_of_ble_eq_true rfl) rfl) (Nat.zero_le _) (Nat.zero_le _) ?_
            refine wt_goto (pc := 135) 117 hc dX3_city_135 (by decide) ?_
            exact ih _ _ (fun hgood => by
              obtain ⟨b, r2, f2, o2, i2, u2, t2, hab, hI2, ht2⟩ := rd_line_ok hg hI ht hgood
              exact ⟨b, r2, f2, o2, i2, u2, t2, hI2, ht2, by omega⟩) (fun _ => by omega) hv
      · rw [if_neg hg] at hv
        refine wt_aload_0 (pc := 117) hc dX3_city_117 ?_
        refine wt_gofn (tw_inv (pc := 118) 0 hc hE (ct_isGood hE) dX3_city_118 rfl q1868 q1870 qs57 q116 q1871 (by decide +kernel) rfl (by decide) (by decide) (Nat.le_of_ble_eq_true rfl) rfl) ?_
        refine wt_if_eq (pc := 121) 138 hc dX3_city_121 (by decide) (fun c_121 => ?_) (fun c_121 => ?_)
        · exact fin A v 0 0 hv (fun z => absurd z hg)
        · exact absurd (sp_b_n0 c_121) hg
  have hin : rd_in (rd_ci0 N n) n 0 := ⟨by omega, Nat.zero_le _, rfl, rfl⟩
  have start : wt_V G X 113 [some (.ref T.1), none, none] [] (tw_Z G T (rd_ci0 N n) w) 0 0 := by
    have hN0 : rd_N (rd_ci0 N n) 0 0 0 0 0 0 := ⟨rfl, rfl, rfl, rfl, rfl, rfl, by omega, by omega, by omega, by omega, by omega⟩
    have hN1 := hN0.go hin
    obtain ⟨-, -, q', p', g1, g2, g3, g4, g5, g6⟩ := rd_go_f hin
    have hv := rd_go_v hin
    have e19 : (rd_go (rd_ci0 N n)).1 0 19 = nI n := (rd_go_f hin).2.1 19 (by decide) (by decide) (by decide) (by decide) (by decide) (by decide)
    refine wt_aload_0 (pc := 113) hc dX3_city_113 ?_
    refine wt_gov (tw_inv (pc := 114) 0 hc hE (ct_goes hE n 0 hin) dX3_city_114 rfl q1854 q1856 qs55 q116 q1857 (by decide +kernel) rfl (by decide) (by decide) (Nat.le_of_ble_eq_true rfl) rfl) (Nat.zero_le _) (Nat.zero_le _) ?_
    exact loop 702 _ _ (fun _ => ⟨0, 0, 0, 0, 0, 0, 0, ⟨⟨p', q', Nat.zero_le _, by omega, g2, g3, e19, g5, g4, g6, hv⟩, hN1⟩, by omega, by omega⟩) (fun _ => by omega) rfl
  have init : ∀ (k j : Nat), j + k = 100 → wt_V G X 94 [some (.ref T.1), none, some (.int (nI j))] [] (tw_Z G T (sp_fill (rd_ci1 N n) 37 j (fun _ => nI 0)) w) 0 0 := by
    intro k
    induction k with
    | zero =>
      intro j hj
      have e : j = 100 := by omega
      subst e
      refine wt_iload_2 (pc := 94) hc dX3_city_94 ?_
      refine wt_bipush (pc := 95) (v := nI 100) hc dX3_city_95 (by decide) ?_
      refine wt_nicmp_ge (pc := 97) 113 (100) (100) hc dX3_city_97 (by decide) (by omega) (by omega) (fun c_97 => ?_) (fun c_97 => ?_)
      · exact wt_drop start ⟨rfl, trivial⟩
      · omega
    | succ k ih =>
      intro j hj
      refine wt_iload_2 (pc := 94) hc dX3_city_94 ?_
      refine wt_bipush (pc := 95) (v := nI 100) hc dX3_city_95 (by decide) ?_
      refine wt_nicmp_ge (pc := 97) 113 (j) (100) hc dX3_city_97 (by decide) (by omega) (by omega) (fun c_97 => ?_) (fun c_97 => ?_)
      · omega
      · refine wt_aload_0 (pc := 100) hc dX3_city_100 ?_
        refine tw_geta (pc := 101) 37 hc hE dX3_city_101 q1641 (by decide) (by decide) (fun _ _ _ => rfl) rfl ?_
        refine wt_iload_2 (pc := 104) hc dX3_city_104 ?_
        refine wt_iconst (pc := 105) (v := nI 0) hc dX3_city_105 (by decide) ?_
        refine tw_iast (pc := 106) (k := 37) (j) hc hE dX3_city_106 rfl (rfl) (by show _ < 100; omega) (by decide) ?_
        refine tw_eq (sp_fill_up (rd_ci1 N n) 37 j (fun _ => nI 0)) ?_
        refine wt_iinc_2 (pc := 107) (v := nI (j + 1)) hc dX3_city_107 (nI_add j 1) rfl ?_
        refine wt_goto (pc := 110) 94 hc dX3_city_110 (by decide) ?_
        exact ih (j + 1) (by omega)
  have i0 := init 100 0 (by omega)
  rw [sp_fill_0] at i0
  refine wt_aload_0 (pc := 0) hc dX3_city_0 ?_
  refine wt_iconst (pc := 1) (v := nI 0) hc dX3_city_1 (by decide) ?_
  refine tw_put (pc := 2) 0 hc hE dX3_city_2 q1604 (by decide) (fun _ _ _ => rfl) rfl rfl (rfl) rfl ?_
  refine tw_eq hN ?_
  refine wt_aload_0 (pc := 5) hc dX3_city_5 ?_
  refine wt_iload_1 (pc := 6) hc dX3_city_6 ?_
  refine wt_if_lt (pc := 7) 22 hc dX3_city_7 (by decide) (fun c_7 => ?_) (fun c_7 => ?_)
  · exact absurd c_7 (Int32.not_lt.mpr (nI_pos' (by omega)))
  · refine wt_iload_1 (pc := 10) hc dX3_city_10 ?_
    refine wt_aload_0 (pc := 11) hc dX3_city_11 ?_
    refine tw_get (pc := 12) 15 (nI tp) hc hE dX3_city_12 q1619 (by decide) (fun _ _ _ => rfl) rfl (et) ?_
    refine wt_nicmp_gt (pc := 15) 22 (n) (tp) hc dX3_city_15 (by decide) (by omega) (by omega) (fun c_15 => ?_) (fun c_15 => ?_)
    · omega
    · refine wt_iconst (pc := 18) (v := nI 1) hc dX3_city_18 (by decide) ?_
      refine wt_goto (pc := 19) 23 hc dX3_city_19 (by decide) ?_
      refine wt_iconst (pc := 23) (v := nI 1) hc dX3_city_23 (by decide) ?_
      refine wt_gofn (tw_inv (pc := 24) 2 hc hE (ct_right0 hE h0 _ _) dX3_city_24 rfl q1850 q1852 qs54 q116 q1853 (by decide +kernel) rfl (by decide) (by decide) (Nat.le_of_ble_eq_true rfl) rfl) ?_
      rw [if_neg (show ¬ nI 1 = 0 by decide), sp_b_t (show ¬ nI 1 = 0 ∨ nI 1 = 0 from Or.inl (by decide))]
      refine wt_if_ne (pc := 27) 32 hc dX3_city_27 (by decide) (fun c_27 => ?_) (fun c_27 => ?_)
      · refine wt_aload_0 (pc := 32) hc dX3_city_32 ?_
        refine wt_iconst (pc := 33) (v := nI 0) hc dX3_city_33 (by decide) ?_
        refine tw_put (pc := 34) 15 hc hE dX3_city_34 q1619 (by decide) (fun _ _ _ => rfl) rfl rfl (rfl) rfl ?_
        refine wt_aload_0 (pc := 37) hc dX3_city_37 ?_
        refine wt_iconst (pc := 38) (v := (-1 : Int32)) hc dX3_city_38 (by decide) ?_
        refine tw_put (pc := 39) 17 hc hE dX3_city_39 q1621 (by decide) (fun _ _ _ => rfl) rfl rfl (rfl) rfl ?_
        refine wt_aload_0 (pc := 42) hc dX3_city_42 ?_
        refine wt_iconst (pc := 43) (v := nI 0) hc dX3_city_43 (by decide) ?_
        refine tw_put (pc := 44) 16 hc hE dX3_city_44 q1620 (by decide) (fun _ _ _ => rfl) rfl rfl (rfl) rfl ?_
        refine wt_aload_0 (pc := 47) hc dX3_city_47 ?_
        refine wt_iload_1 (pc := 48) hc dX3_city_48 ?_
        refine tw_put (pc := 49) 19 hc hE dX3_city_49 q1623 (by decide) (fun _ _ _ => rfl) rfl rfl (rfl) rfl ?_
        refine wt_aload_0 (pc := 52) hc dX3_city_52 ?_
        refine wt_iconst (pc := 53) (v := nI 0) hc dX3_city_53 (by decide) ?_
        refine tw_put (pc := 54) 20 hc hE dX3_city_54 q1624 (by decide) (fun _ _ _ => rfl) rfl rfl (rfl) rfl ?_
        refine wt_aload_0 (pc := 57) hc dX3_city_57 ?_
        refine wt_iconst (pc := 58) (v := nI 0) hc dX3_city_58 (by decide) ?_
        refine tw_put (pc := 59) 27 hc hE dX3_city_59 q1631 (by decide) (fun _ _ _ => rfl) rfl rfl (rfl) rfl ?_
        refine wt_aload_0 (pc := 62) hc dX3_city_62 ?_
        refine wt_iconst (pc := 63) (v := nI 0) hc dX3_city_63 (by decide) ?_
        refine tw_put (pc := 64) 28 hc hE dX3_city_64 q1632 (by decide) (fun _ _ _ => rfl) rfl rfl (rfl) rfl ?_
        refine wt_aload_0 (pc := 67) hc dX3_city_67 ?_
        refine wt_iconst (pc := 68) (v := nI 0) hc dX3_city_68 (by decide) ?_
        refine tw_put (pc := 69) 29 hc hE dX3_city_69 q1633 (by decide) (fun _ _ _ => rfl) rfl rfl (rfl) rfl ?_
        refine wt_aload_0 (pc := 72) hc dX3_city_72 ?_
        refine wt_iconst (pc := 73) (v := nI 0) hc dX3_city_73 (by decide) ?_
        refine tw_put (pc := 74) 30 hc hE dX3_city_74 q1634 (by decide) (fun _ _ _ => rfl) rfl rfl (rfl) rfl ?_
        refine wt_aload_0 (pc := 77) hc dX3_city_77 ?_
        refine wt_iconst (pc := 78) (v := nI 0) hc dX3_city_78 (by decide) ?_
        refine tw_put (pc := 79) 31 hc hE dX3_city_79 q1635 (by decide) (fun _ _ _ => rfl) rfl rfl (rfl) rfl ?_
        refine wt_aload_0 (pc := 82) hc dX3_city_82 ?_
        refine wt_iconst (pc := 83) (v := (-1 : Int32)) hc dX3_city_83 (by decide) ?_
        refine tw_put (pc := 84) 32 hc hE dX3_city_84 q1636 (by decide) (fun _ _ _ => rfl) rfl rfl (rfl) rfl ?_
        refine wt_aload_0 (pc := 87) hc dX3_city_87 ?_
        refine wt_iconst (pc := 88) (v := nI 0) hc dX3_city_88 (by decide) ?_
        refine tw_put (pc := 89) 33 hc hE dX3_city_89 q1637 (by decide) (fun _ _ _ => rfl) rfl rfl (rfl) rfl ?_
        refine wt_iconst (pc := 92) (v := nI 0) hc dX3_city_92 (by decide) ?_
        refine wt_istore_2 (pc := 93) hc dX3_city_93 rfl ?_
        exact wt_drop i0 ⟨rfl, rfl, trivial⟩
      · exact absurd c_27 (by decide)
end TZ
