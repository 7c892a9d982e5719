/-! the law (printed by gen.py) -/
set_option maxRecDepth 100000
def sX (L : Nat) (xs : Nat → Int32) (i : Int32) : Option Int32 := if ¬ i < 0 ∧ i.toNatClampNeg < L then some (xs i.toNatClampNeg) else none
def fL_law_L18 (L : Nat) (xs : Nat → Int32) (a1 : Nat) (a2 : Nat) : Nat → Hp → Int32 → Option ((Int32 × Hp) ⊕ (Hp))
  | 0, _, _ => none
  | fu + 1, h, x3 =>
    if ((Int32.ofNat L) - (iI 5)) < x3 then
      (some (.inr h))
    else
    (sX L xs x3).bind fun v314 =>
    orL (
      if (v314 &&& (iI 63)) = iI 0 then
        ((sX L xs (x3 + (iI 1))).bind fun v356 =>
        (fX0_feed h a1 v356).bind fun o357 =>
        (sX L xs (x3 + (iI 1))).bind fun v358 =>
        (fX4_feed o357.2 a2 v358).bind fun o359 =>
        if o357.1 = o359.1 then
          (some (.inr o359.2))
        else
        some (.inl (iI 0, o359.2)))
      else
      if (v314 &&& (iI 63)) = iI 1 then
        ((sX L xs (x3 + (iI 1))).bind fun v361 =>
        (fX0_end h a1 v361).bind fun o362 =>
        (sX L xs (x3 + (iI 1))).bind fun v363 =>
        (fX4_end o362.2 a2 v363).bind fun o364 =>
        if o362.1 = o364.1 then
          (some (.inr o364.2))
        else
        some (.inl (iI 0, o364.2)))
      else
      if (v314 &&& (iI 63)) = iI 2 then
        ((fX0_text h a1).bind fun o366 =>
        (fX4_text o366.2 a2).bind fun o367 =>
        if o366.1 = o367.1 then
          (some (.inr o367.2))
        else
        some (.inl (iI 0, o367.2)))
      else
      if (v314 &&& (iI 63)) = iI 3 then
        ((fX0_fault h a1).bind fun v369 =>
        (fX4_fault h a2).bind fun v370 =>
        if v369 = v370 then
          (some (.inr h))
        else
        some (.inl (iI 0, h)))
      else
      if (v314 &&& (iI 63)) = iI 4 then
        ((sX L xs (x3 + (iI 1))).bind fun v372 =>
        (fX0_rule h a1 v372).bind fun v373 =>
        (sX L xs (x3 + (iI 1))).bind fun v374 =>
        (fX4_rule h a2 v374).bind fun o375 =>
        if v373 = o375.1 then
          (some (.inr o375.2))
        else
        some (.inl (iI 0, o375.2)))
      else
      if (v314 &&& (iI 63)) = iI 5 then
        ((sX L xs (x3 + (iI 1))).bind fun v377 =>
        (sX L xs (x3 + (iI 2))).bind fun v378 =>
        (fX0_pen h a1 v377 v378).bind fun v379 =>
        (sX L xs (x3 + (iI 1))).bind fun v380 =>
        (sX L xs (x3 + (iI 2))).bind fun v381 =>
        (fX4_pen h a2 v380 v381).bind fun o382 =>
        if v379 = o382.1 then
          (some (.inr o382.2))
        else
        some (.inl (iI 0, o382.2)))
      else
      if (v314 &&& (iI 63)) = iI 6 then
        ((sX L xs (x3 + (iI 1))).bind fun v384 =>
        (sX L xs (x3 + (iI 2))).bind fun v385 =>
        (fX0_echo h a1 v384 v385).bind fun v386 =>
        (sX L xs (x3 + (iI 1))).bind fun v387 =>
        (sX L xs (x3 + (iI 2))).bind fun v388 =>
        (fX4_echo h a2 v387 v388).bind fun o389 =>
        if v386 = o389.1 then
          (some (.inr o389.2))
        else
        some (.inl (iI 0, o389.2)))
      else
      if (v314 &&& (iI 63)) = iI 7 then
        ((sX L xs (x3 + (iI 1))).bind fun v391 =>
        (sX L xs (x3 + (iI 2))).bind fun v392 =>
        (fX0_letter h a1 v391 v392).bind fun v393 =>
        (sX L xs (x3 + (iI 1))).bind fun v394 =>
        (sX L xs (x3 + (iI 2))).bind fun v395 =>
        (fX4_letter h a2 v394 v395).bind fun o396 =>
        if v393 = o396.1 then
          (some (.inr o396.2))
        else
        some (.inl (iI 0, o396.2)))
      else
      if (v314 &&& (iI 63)) = iI 8 then
        ((sX L xs (x3 + (iI 1))).bind fun v398 =>
        (sX L xs (x3 + (iI 2))).bind fun v399 =>
        (fX0_order h a1 v398 v399).bind fun v400 =>
        (sX L xs (x3 + (iI 1))).bind fun v401 =>
        (sX L xs (x3 + (iI 2))).bind fun v402 =>
        (fX4_order h a2 v401 v402).bind fun v403 =>
        if v400 = v403 then
          (some (.inr h))
        else
        some (.inl (iI 0, h)))
      else
      if (v314 &&& (iI 63)) = iI 9 then
        ((sX L xs (x3 + (iI 1))).bind fun v405 =>
        (sX L xs (x3 + (iI 2))).bind fun v406 =>
        (fX0_drive h a1 v405 v406).bind fun o407 =>
        (sX L xs (x3 + (iI 1))).bind fun v408 =>
        (sX L xs (x3 + (iI 2))).bind fun v409 =>
        (fX4_drive o407.2 a2 v408 v409).bind fun o410 =>
        if o407.1 = o410.1 then
          (some (.inr o410.2))
        else
        some (.inl (iI 0, o410.2)))
      else
      if (v314 &&& (iI 63)) = iI 10 then
        ((sX L xs (x3 + (iI 1))).bind fun v412 =>
        (sX L xs (x3 + (iI 2))).bind fun v413 =>
        (sX L xs (x3 + (iI 3))).bind fun v414 =>
        (fX0_fence h a1 v412 v413 v414).bind fun o415 =>
        (sX L xs (x3 + (iI 1))).bind fun v416 =>
        (sX L xs (x3 + (iI 2))).bind fun v417 =>
        (sX L xs (x3 + (iI 3))).bind fun v418 =>
        (fX4_fence o415.2 a2 v416 v417 v418).bind fun o419 =>
        if o415.1 = o419.1 then
          (some (.inr o419.2))
        else
        some (.inl (iI 0, o419.2)))
      else
      if (v314 &&& (iI 63)) = iI 11 then
        ((sX L xs (x3 + (iI 1))).bind fun v421 =>
        (sX L xs (x3 + (iI 2))).bind fun v422 =>
        (sX L xs (x3 + (iI 3))).bind fun v423 =>
        (fX0_raise h a1 v421 v422 v423).bind fun o424 =>
        (sX L xs (x3 + (iI 1))).bind fun v425 =>
        (sX L xs (x3 + (iI 2))).bind fun v426 =>
        (sX L xs (x3 + (iI 3))).bind fun v427 =>
        (fX4_raise o424.2 a2 v425 v426 v427).bind fun o428 =>
        if o424.1 = o428.1 then
          (some (.inr o428.2))
        else
        some (.inl (iI 0, o428.2)))
      else
      if (v314 &&& (iI 63)) = iI 12 then
        ((sX L xs (x3 + (iI 1))).bind fun v430 =>
        (fX0_clip h a1 v430).bind fun o431 =>
        (sX L xs (x3 + (iI 1))).bind fun v432 =>
        (fX4_clip o431.2 a2 v432).bind fun o433 =>
        if o431.1 = o433.1 then
          (some (.inr o433.2))
        else
        some (.inl (iI 0, o433.2)))
      else
      if (v314 &&& (iI 63)) = iI 13 then
        ((sX L xs (x3 + (iI 1))).bind fun v435 =>
        (sX L xs (x3 + (iI 2))).bind fun v436 =>
        (fX0_teach h a1 v435 v436).bind fun o437 =>
        (sX L xs (x3 + (iI 1))).bind fun v438 =>
        (sX L xs (x3 + (iI 2))).bind fun v439 =>
        (fX4_teach o437.2 a2 v438 v439).bind fun o440 =>
        if o437.1 = o440.1 then
          (some (.inr o440.2))
        else
        some (.inl (iI 0, o440.2)))
      else
      if (v314 &&& (iI 63)) = iI 14 then
        ((sX L xs (x3 + (iI 1))).bind fun v442 =>
        (sX L xs (x3 + (iI 2))).bind fun v443 =>
        (fX0_cross h a1 v442 v443).bind fun o444 =>
        (sX L xs (x3 + (iI 1))).bind fun v445 =>
        (sX L xs (x3 + (iI 2))).bind fun v446 =>
        (fX4_cross o444.2 a2 v445 v446).bind fun o447 =>
        if o444.1 = o447.1 then
          (some (.inr o447.2))
        else
        some (.inl (iI 0, o447.2)))
      else
      if (v314 &&& (iI 63)) = iI 15 then
        ((sX L xs (x3 + (iI 1))).bind fun v449 =>
        (fX0_go h a1 v449).bind fun o450 =>
        (sX L xs (x3 + (iI 1))).bind fun v451 =>
        (fX4_go o450.2 a2 v451).bind fun o452 =>
        if o450.1 = o452.1 then
          (some (.inr o452.2))
        else
        some (.inl (iI 0, o452.2)))
      else
      if (v314 &&& (iI 63)) = iI 16 then
        ((sX L xs (x3 + (iI 1))).bind fun v454 =>
        (sX L xs (x3 + (iI 2))).bind fun v455 =>
        (sX L xs (x3 + (iI 3))).bind fun v456 =>
        (fX0_ahead h a1 v454 v455 v456).bind fun o457 =>
        (sX L xs (x3 + (iI 1))).bind fun v458 =>
        (sX L xs (x3 + (iI 2))).bind fun v459 =>
        (sX L xs (x3 + (iI 3))).bind fun v460 =>
        (fX4_ahead o457.2 a2 v458 v459 v460).bind fun o461 =>
        if o457.1 = o461.1 then
          (some (.inr o461.2))
        else
        some (.inl (iI 0, o461.2)))
      else
      if (v314 &&& (iI 63)) = iI 17 then
        ((sX L xs (x3 + (iI 1))).bind fun v463 =>
        (sX L xs (x3 + (iI 2))).bind fun v464 =>
        (fX0_when h a1 v463 v464).bind fun o465 =>
        (sX L xs (x3 + (iI 1))).bind fun v466 =>
        (sX L xs (x3 + (iI 2))).bind fun v467 =>
        (fX4_when o465.2 a2 v466 v467).bind fun o468 =>
        if o465.1 = o468.1 then
          (some (.inr o468.2))
        else
        some (.inl (iI 0, o468.2)))
      else
      if (v314 &&& (iI 63)) = iI 18 then
        ((sX L xs (x3 + (iI 1))).bind fun v470 =>
        (sX L xs (x3 + (iI 2))).bind fun v471 =>
        (fX0_heard h a1 v470 v471).bind fun v472 =>
        (sX L xs (x3 + (iI 1))).bind fun v473 =>
        (sX L xs (x3 + (iI 2))).bind fun v474 =>
        (fX4_heard h a2 v473 v474).bind fun o475 =>
        if v472 = o475.1 then
          (some (.inr o475.2))
        else
        some (.inl (iI 0, o475.2)))
      else
      if (v314 &&& (iI 63)) = iI 19 then
        ((sX L xs (x3 + (iI 1))).bind fun v477 =>
        (fX0_together h a1 v477).bind fun v478 =>
        (sX L xs (x3 + (iI 1))).bind fun v479 =>
        (fX4_together h a2 v479).bind fun o480 =>
        if v478 = o480.1 then
          (some (.inr o480.2))
        else
        some (.inl (iI 0, o480.2)))
      else
      if (v314 &&& (iI 63)) = iI 20 then
        ((sX L xs (x3 + (iI 1))).bind fun v482 =>
        (fX0_still h a1 v482).bind fun v483 =>
        (sX L xs (x3 + (iI 1))).bind fun v484 =>
        (fX4_still h a2 v484).bind fun o485 =>
        if v483 = o485.1 then
          (some (.inr o485.2))
        else
        some (.inl (iI 0, o485.2)))
      else
      if (v314 &&& (iI 63)) = iI 21 then
        ((sX L xs (x3 + (iI 1))).bind fun v487 =>
        (fX0_meets h a1 v487).bind fun v488 =>
        (sX L xs (x3 + (iI 1))).bind fun v489 =>
        (fX4_meets h a2 v489).bind fun o490 =>
        if v488 = o490.1 then
          (some (.inr o490.2))
        else
        some (.inl (iI 0, o490.2)))
      else
      if (v314 &&& (iI 63)) = iI 22 then
        ((sX L xs (x3 + (iI 1))).bind fun v492 =>
        (sX L xs (x3 + (iI 2))).bind fun v493 =>
        (fX0_sell h a1 v492 v493).bind fun o494 =>
        (sX L xs (x3 + (iI 1))).bind fun v495 =>
        (sX L xs (x3 + (iI 2))).bind fun v496 =>
        (fX4_sell o494.2 a2 v495 v496).bind fun o497 =>
        if o494.1 = o497.1 then
          (some (.inr o497.2))
        else
        some (.inl (iI 0, o497.2)))
      else
      if (v314 &&& (iI 63)) = iI 23 then
        ((sX L xs (x3 + (iI 1))).bind fun v499 =>
        (fX0_sale h a1 v499).bind fun o500 =>
        (sX L xs (x3 + (iI 1))).bind fun v501 =>
        (fX4_sale o500.2 a2 v501).bind fun o502 =>
        if o500.1 = o502.1 then
          (some (.inr o502.2))
        else
        some (.inl (iI 0, o502.2)))
      else
      if (v314 &&& (iI 63)) = iI 24 then
        ((sX L xs (x3 + (iI 1))).bind fun v504 =>
        (sX L xs (x3 + (iI 2))).bind fun v505 =>
        (fX0_best h a1 v504 v505).bind fun o506 =>
        (sX L xs (x3 + (iI 1))).bind fun v507 =>
        (sX L xs (x3 + (iI 2))).bind fun v508 =>
        (fX4_best o506.2 a2 v507 v508).bind fun o509 =>
        if o506.1 = o509.1 then
          (some (.inr o509.2))
        else
        some (.inl (iI 0, o509.2)))
      else
      if (v314 &&& (iI 63)) = iI 25 then
        ((sX L xs (x3 + (iI 1))).bind fun v511 =>
        (fX0_near h a1 v511).bind fun v512 =>
        (sX L xs (x3 + (iI 1))).bind fun v513 =>
        (fX4_near h a2 v513).bind fun o514 =>
        if v512 = o514.1 then
          (some (.inr o514.2))
        else
        some (.inl (iI 0, o514.2)))
      else
      if (v314 &&& (iI 63)) = iI 26 then
        ((sX L xs (x3 + (iI 1))).bind fun v516 =>
        (sX L xs (x3 + (iI 2))).bind fun v517 =>
        (sX L xs (x3 + (iI 3))).bind fun v518 =>
        (sX L xs (x3 + (iI 4))).bind fun v519 =>
        (fX0_keeps h a1 v516 v517 v518 v519).bind fun v520 =>
        (sX L xs (x3 + (iI 1))).bind fun v521 =>
        (sX L xs (x3 + (iI 2))).bind fun v522 =>
        (sX L xs (x3 + (iI 3))).bind fun v523 =>
        (sX L xs (x3 + (iI 4))).bind fun v524 =>
        (fX4_keeps h a2 v521 v522 v523 v524).bind fun o525 =>
        if (lg_cmp v520 o525.1) = 0 then
          (some (.inr o525.2))
        else
        some (.inl (iI 0, o525.2)))
      else
      if (v314 &&& (iI 63)) = iI 27 then
        ((sX L xs (x3 + (iI 1))).bind fun v527 =>
        (sX L xs (x3 + (iI 2))).bind fun v528 =>
        (sX L xs (x3 + (iI 3))).bind fun v529 =>
        (sX L xs (x3 + (iI 4))).bind fun v530 =>
        (fX0_mean h a1 v527 v528 v529 v530).bind fun v531 =>
        (sX L xs (x3 + (iI 1))).bind fun v532 =>
        (sX L xs (x3 + (iI 2))).bind fun v533 =>
        (sX L xs (x3 + (iI 3))).bind fun v534 =>
        (sX L xs (x3 + (iI 4))).bind fun v535 =>
        (fX4_mean h a2 v532 v533 v534 v535).bind fun o536 =>
        if (lg_cmp v531 o536.1) = 0 then
          (some (.inr o536.2))
        else
        some (.inl (iI 0, o536.2)))
      else
      if (v314 &&& (iI 63)) = iI 28 then
        ((sX L xs (x3 + (iI 1))).bind fun v538 =>
        (sX L xs (x3 + (iI 2))).bind fun v539 =>
        (sX L xs (x3 + (iI 3))).bind fun v540 =>
        (fX0_see h a1 v538 v539 v540).bind fun o541 =>
        (sX L xs (x3 + (iI 1))).bind fun v542 =>
        (sX L xs (x3 + (iI 2))).bind fun v543 =>
        (sX L xs (x3 + (iI 3))).bind fun v544 =>
        (fX4_see o541.2 a2 v542 v543 v544).bind fun o545 =>
        if o541.1 = o545.1 then
          (some (.inr o545.2))
        else
        some (.inl (iI 0, o545.2)))
      else
      if (v314 &&& (iI 63)) = iI 29 then
        ((sX L xs (x3 + (iI 1))).bind fun v547 =>
        (fX0_forget h a1 v547).bind fun o548 =>
        (sX L xs (x3 + (iI 1))).bind fun v549 =>
        (fX4_forget o548.2 a2 v549).bind fun o550 =>
        if o548.1 = o550.1 then
          (some (.inr o550.2))
        else
        some (.inl (iI 0, o550.2)))
      else
      if (v314 &&& (iI 63)) = iI 30 then
        ((sX L xs (x3 + (iI 1))).bind fun v552 =>
        (fX0_fits h a1 v552).bind fun o553 =>
        (sX L xs (x3 + (iI 1))).bind fun v554 =>
        (fX4_fits o553.2 a2 v554).bind fun o555 =>
        if o553.1 = o555.1 then
          (some (.inr o555.2))
        else
        some (.inl (iI 0, o555.2)))
      else
      if (v314 &&& (iI 63)) = iI 31 then
        ((sX L xs (x3 + (iI 1))).bind fun v557 =>
        (sX L xs (x3 + (iI 2))).bind fun v558 =>
        (fX0_listen h a1 v557 v558).bind fun o559 =>
        (sX L xs (x3 + (iI 1))).bind fun v560 =>
        (sX L xs (x3 + (iI 2))).bind fun v561 =>
        (fX4_listen o559.2 a2 v560 v561).bind fun o562 =>
        if o559.1 = o562.1 then
          (some (.inr o562.2))
        else
        some (.inl (iI 0, o562.2)))
      else
      if (v314 &&& (iI 63)) = iI 32 then
        ((sX L xs (x3 + (iI 1))).bind fun v564 =>
        (sX L xs (x3 + (iI 2))).bind fun v565 =>
        (sX L xs (x3 + (iI 3))).bind fun v566 =>
        (fX0_drift h a1 v564 v565 v566).bind fun o567 =>
        (sX L xs (x3 + (iI 1))).bind fun v568 =>
        (sX L xs (x3 + (iI 2))).bind fun v569 =>
        (sX L xs (x3 + (iI 3))).bind fun v570 =>
        (fX4_drift o567.2 a2 v568 v569 v570).bind fun o571 =>
        if o567.1 = o571.1 then
          (some (.inr o571.2))
        else
        some (.inl (iI 0, o571.2)))
      else
      if (v314 &&& (iI 63)) = iI 33 then
        ((sX L xs (x3 + (iI 1))).bind fun v573 =>
        (fX0_keep h a1 v573).bind fun o574 =>
        (sX L xs (x3 + (iI 1))).bind fun v575 =>
        (fX4_keep o574.2 a2 v575).bind fun o576 =>
        if o574.1 = o576.1 then
          (some (.inr o576.2))
        else
        some (.inl (iI 0, o576.2)))
      else
      if (v314 &&& (iI 63)) = iI 34 then
        ((sX L xs (x3 + (iI 1))).bind fun v578 =>
        (fX0_back h a1 v578).bind fun o579 =>
        (sX L xs (x3 + (iI 1))).bind fun v580 =>
        (fX4_back o579.2 a2 v580).bind fun o581 =>
        if o579.1 = o581.1 then
          (some (.inr o581.2))
        else
        some (.inl (iI 0, o581.2)))
      else
      if (v314 &&& (iI 63)) = iI 35 then
        ((sX L xs (x3 + (iI 1))).bind fun v583 =>
        (sX L xs (x3 + (iI 2))).bind fun v584 =>
        (sX L xs (x3 + (iI 3))).bind fun v585 =>
        (fX0_sheet h a1 v583 v584 v585).bind fun o586 =>
        (sX L xs (x3 + (iI 1))).bind fun v587 =>
        (sX L xs (x3 + (iI 2))).bind fun v588 =>
        (sX L xs (x3 + (iI 3))).bind fun v589 =>
        (fX4_sheet o586.2 a2 v587 v588 v589).bind fun o590 =>
        if o586.1 = o590.1 then
          (some (.inr o590.2))
        else
        some (.inl (iI 0, o590.2)))
      else
      if (v314 &&& (iI 63)) = iI 36 then
        ((sX L xs (x3 + (iI 1))).bind fun v592 =>
        (sX L xs (x3 + (iI 2))).bind fun v593 =>
        (sX L xs (x3 + (iI 3))).bind fun v594 =>
        (fX0_lay h a1 v592 v593 v594).bind fun o595 =>
        (sX L xs (x3 + (iI 1))).bind fun v596 =>
        (sX L xs (x3 + (iI 2))).bind fun v597 =>
        (sX L xs (x3 + (iI 3))).bind fun v598 =>
        (fX4_lay o595.2 a2 v596 v597 v598).bind fun o599 =>
        if o595.1 = o599.1 then
          (some (.inr o599.2))
        else
        some (.inl (iI 0, o599.2)))
      else
      if (v314 &&& (iI 63)) = iI 37 then
        ((sX L xs (x3 + (iI 1))).bind fun v601 =>
        (sX L xs (x3 + (iI 2))).bind fun v602 =>
        (sX L xs (x3 + (iI 3))).bind fun v603 =>
        (sX L xs (x3 + (iI 4))).bind fun v604 =>
        (fX0_read h a1 v601 v602 v603 v604).bind fun o605 =>
        (sX L xs (x3 + (iI 1))).bind fun v606 =>
        (sX L xs (x3 + (iI 2))).bind fun v607 =>
        (sX L xs (x3 + (iI 3))).bind fun v608 =>
        (sX L xs (x3 + (iI 4))).bind fun v609 =>
        (fX4_read o605.2 a2 v606 v607 v608 v609).bind fun o610 =>
        if o605.1 = o610.1 then
          (some (.inr o610.2))
        else
        some (.inl (iI 0, o610.2)))
      else
      if (v314 &&& (iI 63)) = iI 38 then
        ((fX0_torn h a1).bind fun v612 =>
        (fX4_torn h a2).bind fun v613 =>
        if v612 = v613 then
          (some (.inr h))
        else
        some (.inl (iI 0, h)))
      else
      if (v314 &&& (iI 63)) = iI 39 then
        ((sX L xs (x3 + (iI 1))).bind fun v615 =>
        (fX0_count h a1 v615).bind fun v616 =>
        (sX L xs (x3 + (iI 1))).bind fun v617 =>
        (fX4_count h a2 v617).bind fun o618 =>
        if v616 = o618.1 then
          (some (.inr o618.2))
        else
        some (.inl (iI 0, o618.2)))
      else
      some (.inr h)) (fun r => some (.inl r)) fun o315 =>
    fL_law_L18 L xs a1 a2 fu o315 (x3 + iI 5)
def fL_law (L : Nat) (xs : Nat → Int32) (h : Hp) : Option (Int32 × Hp) :=
  (nwO 0 [.null, .int 0, .int 0, .null, .int 0, .null, .int 0, .null, .null, .null, .int 0, .null, .null, .int 0, .int 0, .null, .null, .null, .int 0, .null, .null, .null, .int 0, .int 0, .int 0] h).bind fun h1 =>
  (fX0_init h1 h.1).bind fun o2 =>
  (nwO 4 [.null, .null, .null, .int 0, .int 0, .int 0, .null, .null, .int 0, .int 0, .int 0, .null, .int 0, .null, .int 0, .int 0, .int 0, .int 0, .int 0, .int 0, .int 0, .null, .int 0, .long 0, .long 0, .long 0, .null, .null, .null, .null, .int 0, .null] o2).bind fun h3 =>
  (fX4_init h3 o2.1).bind fun o4 =>
  orL (fL_law_L18 L xs h.1 o2.1 65 o4 (iI 0)) (fun r => some r) fun o5 =>
  some (iI 1, o5)
