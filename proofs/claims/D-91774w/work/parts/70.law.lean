set_option maxRecDepth 100000
/-- SendHallLaw.law([I)Z -/
def fL_law_b1090 (E : g_E) (k23 : (Option Nat) → (Option Nat) → (Option Nat) → (Option Nat) → Int32 → g_G → Option (Int32 × g_G)) (v0 : Option Nat) (v1 : Option Nat) (v2 : Option Nat) (v3 : Option Nat) (v4 : Int32) (G : g_G) : Option (Int32 × g_G) :=
  k23 v0 v1 v2 v3 (v4 + 6) G
def fL_law_b1087 (E : g_E) (k23 : (Option Nat) → (Option Nat) → (Option Nat) → (Option Nat) → Int32 → g_G → Option (Int32 × g_G)) (v0 : Option Nat) (v1 : Option Nat) (v2 : Option Nat) (v3 : Option Nat) (v4 : Int32) (G : g_G) : Option (Int32 × g_G) :=
  fL_law_b1090 E k23 v0 v1 v2 v3 v4 G
def fL_law_b1031 (E : g_E) (k23 : (Option Nat) → (Option Nat) → (Option Nat) → (Option Nat) → Int32 → g_G → Option (Int32 × g_G)) (v0 : Option Nat) (v1 : Option Nat) (v2 : Option Nat) (v3 : Option Nat) (v4 : Int32) (G : g_G) : Option (Int32 × g_G) :=
  fL_law_b1090 E k23 v0 v1 v2 v3 v4 G
def fL_law_b975 (E : g_E) (k23 : (Option Nat) → (Option Nat) → (Option Nat) → (Option Nat) → Int32 → g_G → Option (Int32 × g_G)) (v0 : Option Nat) (v1 : Option Nat) (v2 : Option Nat) (v3 : Option Nat) (v4 : Int32) (G : g_G) : Option (Int32 × g_G) :=
  fL_law_b1090 E k23 v0 v1 v2 v3 v4 G
def fL_law_b919 (E : g_E) (k23 : (Option Nat) → (Option Nat) → (Option Nat) → (Option Nat) → Int32 → g_G → Option (Int32 × g_G)) (v0 : Option Nat) (v1 : Option Nat) (v2 : Option Nat) (v3 : Option Nat) (v4 : Int32) (G : g_G) : Option (Int32 × g_G) :=
  fL_law_b1090 E k23 v0 v1 v2 v3 v4 G
def fL_law_b851 (E : g_E) (k23 : (Option Nat) → (Option Nat) → (Option Nat) → (Option Nat) → Int32 → g_G → Option (Int32 × g_G)) (v0 : Option Nat) (v1 : Option Nat) (v2 : Option Nat) (v3 : Option Nat) (v4 : Int32) (G : g_G) : Option (Int32 × g_G) :=
  fL_law_b1090 E k23 v0 v1 v2 v3 v4 G
def fL_law_b751 (E : g_E) (k23 : (Option Nat) → (Option Nat) → (Option Nat) → (Option Nat) → Int32 → g_G → Option (Int32 × g_G)) (v0 : Option Nat) (v1 : Option Nat) (v2 : Option Nat) (v3 : Option Nat) (v4 : Int32) (G : g_G) : Option (Int32 × g_G) :=
  fL_law_b1090 E k23 v0 v1 v2 v3 v4 G
def fL_law_b745 (E : g_E) (k23 : (Option Nat) → (Option Nat) → (Option Nat) → (Option Nat) → Int32 → g_G → Option (Int32 × g_G)) (v0 : Option Nat) (v1 : Option Nat) (v2 : Option Nat) (v3 : Option Nat) (v4 : Int32) (s0 : Int64) (s1 : Int64) (G : g_G) : Option (Int32 × g_G) :=
  if (lg_cmp s0 s1) = 0 then (
    fL_law_b751 E k23 v0 v1 v2 v3 v4 G)
  else (
    if (0 : Int32) = 0 ∨ (0 : Int32) = 1 then some (0, G) else none)
def fL_law_b662 (E : g_E) (k23 : (Option Nat) → (Option Nat) → (Option Nat) → (Option Nat) → Int32 → g_G → Option (Int32 × g_G)) (v0 : Option Nat) (v1 : Option Nat) (v2 : Option Nat) (v3 : Option Nat) (v4 : Int32) (G : g_G) : Option (Int32 × g_G) :=
  fL_law_b1090 E k23 v0 v1 v2 v3 v4 G
def fL_law_b581 (E : g_E) (k23 : (Option Nat) → (Option Nat) → (Option Nat) → (Option Nat) → Int32 → g_G → Option (Int32 × g_G)) (v0 : Option Nat) (v1 : Option Nat) (v2 : Option Nat) (v3 : Option Nat) (v4 : Int32) (G : g_G) : Option (Int32 × g_G) :=
  fL_law_b1090 E k23 v0 v1 v2 v3 v4 G
def fL_law_b513 (E : g_E) (k23 : (Option Nat) → (Option Nat) → (Option Nat) → (Option Nat) → Int32 → g_G → Option (Int32 × g_G)) (v0 : Option Nat) (v1 : Option Nat) (v2 : Option Nat) (v3 : Option Nat) (v4 : Int32) (G : g_G) : Option (Int32 × g_G) :=
  fL_law_b1090 E k23 v0 v1 v2 v3 v4 G
def fL_law_b444 (E : g_E) (k23 : (Option Nat) → (Option Nat) → (Option Nat) → (Option Nat) → Int32 → g_G → Option (Int32 × g_G)) (v0 : Option Nat) (v1 : Option Nat) (v2 : Option Nat) (v3 : Option Nat) (v4 : Int32) (G : g_G) : Option (Int32 × g_G) :=
  fL_law_b1090 E k23 v0 v1 v2 v3 v4 G
def fL_law_b388 (E : g_E) (k23 : (Option Nat) → (Option Nat) → (Option Nat) → (Option Nat) → Int32 → g_G → Option (Int32 × g_G)) (v0 : Option Nat) (v1 : Option Nat) (v2 : Option Nat) (v3 : Option Nat) (v4 : Int32) (G : g_G) : Option (Int32 × g_G) :=
  fL_law_b1090 E k23 v0 v1 v2 v3 v4 G
def fL_law_b258 (E : g_E) (k23 : (Option Nat) → (Option Nat) → (Option Nat) → (Option Nat) → Int32 → g_G → Option (Int32 × g_G)) (v0 : Option Nat) (v1 : Option Nat) (v2 : Option Nat) (v3 : Option Nat) (v4 : Int32) (G : g_G) : Option (Int32 × g_G) :=
  fL_law_b1090 E k23 v0 v1 v2 v3 v4 G
def fL_law_b23 (E : g_E) : Nat → (Option Nat) → (Option Nat) → (Option Nat) → (Option Nat) → Int32 → g_G → Option (Int32 × g_G)
  | 0, _, _, _, _, _, _ => none
  | n + 1, v0, v1, v2, v3, v4, G =>
    (galen G v0).bind fun x26 =>
    if (x26 - 6) < v4 then (
      if (1 : Int32) = 0 ∨ (1 : Int32) = 1 then some (1, G) else none)
    else (
      (gaI G 100 v0 v4).bind fun x36 =>
      if (x36 &&& 31) = 0 then (
        (gaI G 100 v0 (v4 + 1)).bind fun x138 =>
        (gaI G 100 v0 (v4 + 2)).bind fun x144 =>
        (gaI G 100 v0 (v4 + 3)).bind fun x150 =>
        (gaI G 100 v0 (v4 + 4)).bind fun x156 =>
        (gaI G 100 v0 (v4 + 5)).bind fun x162 =>
        (gchk G 1 v1).bind fun b163 =>
        (fX1_feed E b163 x138 x144 x150 x156 x162 G).bind fun z163 =>
        (gaI z163.2 100 v0 (v4 + 1)).bind fun x172 =>
        (gaI z163.2 100 v0 (v4 + 2)).bind fun x178 =>
        (gaI z163.2 100 v0 (v4 + 3)).bind fun x184 =>
        (gaI z163.2 100 v0 (v4 + 4)).bind fun x190 =>
        (gaI z163.2 100 v0 (v4 + 5)).bind fun x196 =>
        (gchk z163.2 4 v2).bind fun b197 =>
        (fX4_feed E b197 x172 x178 x184 x190 x196 z163.2).bind fun z197 =>
        if z163.1 = z197.1 then (
          fL_law_b1090 E (fL_law_b23 E n) v0 v1 v2 v3 v4 z197.2)
        else (
          if (0 : Int32) = 0 ∨ (0 : Int32) = 1 then some (0, z197.2) else none))
      else
      if (x36 &&& 31) = 1 then (
        (gaI G 100 v0 (v4 + 1)).bind fun x211 =>
        gcat (fX0_text E v1 x211 v3 G) (fun z213 =>
          (gaI z213.2 100 v0 (v4 + 1)).bind fun x224 =>
          (gchk z213.2 4 v2).bind fun b225 =>
          (fX4_text E b225 x224 z213.2).bind fun z225 =>
          (gchk z225.2 4 v2).bind fun b231 =>
          (fX4_thrown E b231 z225.2).bind fun z231 =>
          if z231.1 = z213.1 then (
            if ¬ z213.1 = 0 then (
              fL_law_b258 E (fL_law_b23 E n) v0 v1 v2 v3 v4 z231.2)
            else (
              (gaL z231.2 v3 0).bind fun x248 =>
              if (lg_cmp x248 (Int32.toInt64 z225.1)) = 0 then (
                fL_law_b258 E (fL_law_b23 E n) v0 v1 v2 v3 v4 z231.2)
              else (
                if (0 : Int32) = 0 ∨ (0 : Int32) = 1 then some (0, z231.2) else none)))
          else (
            if (0 : Int32) = 0 ∨ (0 : Int32) = 1 then some (0, z231.2) else none))
        (fun _ => none))
      else
      if (x36 &&& 31) = 2 then (
        (gchk G 1 v1).bind fun b262 =>
        (fX1_fault E b262 G).bind fun z262 =>
        (gchk z262.2 4 v2).bind fun b266 =>
        (fX4_fault E b266 z262.2).bind fun z266 =>
        if z262.1 = z266.1 then (
          fL_law_b1090 E (fL_law_b23 E n) v0 v1 v2 v3 v4 z266.2)
        else (
          if (0 : Int32) = 0 ∨ (0 : Int32) = 1 then some (0, z266.2) else none))
      else
      if (x36 &&& 31) = 3 then (
        (gaI G 100 v0 (v4 + 1)).bind fun x280 =>
        (gaI G 100 v0 (v4 + 2)).bind fun x286 =>
        (gaI G 100 v0 (v4 + 3)).bind fun x292 =>
        (gaI G 100 v0 (v4 + 4)).bind fun x298 =>
        (gchk G 1 v1).bind fun b299 =>
        (fX1_world E b299 x280 x286 x292 x298 G).bind fun z299 =>
        (gaI z299.2 100 v0 (v4 + 1)).bind fun x308 =>
        (gaI z299.2 100 v0 (v4 + 2)).bind fun x314 =>
        (gaI z299.2 100 v0 (v4 + 3)).bind fun x320 =>
        (gaI z299.2 100 v0 (v4 + 4)).bind fun x326 =>
        (gchk z299.2 4 v2).bind fun b327 =>
        (fX4_world E b327 x308 x314 x320 x326 z299.2).bind fun z327 =>
        if z299.1 = z327.1 then (
          fL_law_b1090 E (fL_law_b23 E n) v0 v1 v2 v3 v4 z327.2)
        else (
          if (0 : Int32) = 0 ∨ (0 : Int32) = 1 then some (0, z327.2) else none))
      else
      if (x36 &&& 31) = 4 then (
        (gaI G 100 v0 (v4 + 1)).bind fun x341 =>
        gcat (fX0_count E v1 x341 v3 G) (fun z343 =>
          (gaI z343.2 100 v0 (v4 + 1)).bind fun x354 =>
          (gchk z343.2 4 v2).bind fun b355 =>
          (fX4_count E b355 x354 z343.2).bind fun z355 =>
          (gchk z355.2 4 v2).bind fun b361 =>
          (fX4_thrown E b361 z355.2).bind fun z361 =>
          if z361.1 = z343.1 then (
            if ¬ z343.1 = 0 then (
              fL_law_b388 E (fL_law_b23 E n) v0 v1 v2 v3 v4 z361.2)
            else (
              (gaL z361.2 v3 0).bind fun x378 =>
              if (lg_cmp x378 (Int32.toInt64 z355.1)) = 0 then (
                fL_law_b388 E (fL_law_b23 E n) v0 v1 v2 v3 v4 z361.2)
              else (
                if (0 : Int32) = 0 ∨ (0 : Int32) = 1 then some (0, z361.2) else none)))
          else (
            if (0 : Int32) = 0 ∨ (0 : Int32) = 1 then some (0, z361.2) else none))
        (fun _ => none))
      else
      if (x36 &&& 31) = 5 then (
        (gaI G 100 v0 (v4 + 1)).bind fun x397 =>
        gcat (fX0_step E v1 x397 v3 G) (fun z399 =>
          (gaI z399.2 100 v0 (v4 + 1)).bind fun x410 =>
          (gchk z399.2 4 v2).bind fun b411 =>
          (fX4_step E b411 x410 z399.2).bind fun z411 =>
          (gchk z411.2 4 v2).bind fun b417 =>
          (fX4_thrown E b417 z411.2).bind fun z417 =>
          if z417.1 = z399.1 then (
            if ¬ z399.1 = 0 then (
              fL_law_b444 E (fL_law_b23 E n) v0 v1 v2 v3 v4 z417.2)
            else (
              (gaL z417.2 v3 0).bind fun x434 =>
              if (lg_cmp x434 (Int32.toInt64 z411.1)) = 0 then (
                fL_law_b444 E (fL_law_b23 E n) v0 v1 v2 v3 v4 z417.2)
              else (
                if (0 : Int32) = 0 ∨ (0 : Int32) = 1 then some (0, z417.2) else none)))
          else (
            if (0 : Int32) = 0 ∨ (0 : Int32) = 1 then some (0, z417.2) else none))
        (fun _ => none))
      else
      if (x36 &&& 31) = 6 then (
        (gchk G 1 v1).bind fun b448 =>
        (fX1_reached E b448 G).bind fun z448 =>
        (gchk z448.2 4 v2).bind fun b452 =>
        (fX4_reached E b452 z448.2).bind fun z452 =>
        if z448.1 = z452.1 then (
          fL_law_b1090 E (fL_law_b23 E n) v0 v1 v2 v3 v4 z452.2)
        else (
          if (0 : Int32) = 0 ∨ (0 : Int32) = 1 then some (0, z452.2) else none))
      else
      if (x36 &&& 31) = 7 then (
        (gaI G 100 v0 (v4 + 1)).bind fun x466 =>
        gcat (fX0_endings E v1 x466 v3 G) (fun z468 =>
          (gaI z468.2 100 v0 (v4 + 1)).bind fun x479 =>
          (gchk z468.2 4 v2).bind fun b480 =>
          (fX4_endings E b480 x479 z468.2).bind fun z480 =>
          (gchk z480.2 4 v2).bind fun b486 =>
          (fX4_thrown E b486 z480.2).bind fun z486 =>
          if z486.1 = z468.1 then (
            if ¬ z468.1 = 0 then (
              fL_law_b513 E (fL_law_b23 E n) v0 v1 v2 v3 v4 z486.2)
            else (
              (gaL z486.2 v3 0).bind fun x503 =>
              if (lg_cmp x503 (Int32.toInt64 z480.1)) = 0 then (
                fL_law_b513 E (fL_law_b23 E n) v0 v1 v2 v3 v4 z486.2)
              else (
                if (0 : Int32) = 0 ∨ (0 : Int32) = 1 then some (0, z486.2) else none)))
          else (
            if (0 : Int32) = 0 ∨ (0 : Int32) = 1 then some (0, z486.2) else none))
        (fun _ => none))
      else
      if (x36 &&& 31) = 8 then (
        (gaI G 100 v0 (v4 + 1)).bind fun x522 =>
        (gaI G 100 v0 (v4 + 2)).bind fun x528 =>
        gcat (fX0_ending E v1 x522 x528 v3 G) (fun z530 =>
          (gaI z530.2 100 v0 (v4 + 1)).bind fun x541 =>
          (gaI z530.2 100 v0 (v4 + 2)).bind fun x547 =>
          (gchk z530.2 4 v2).bind fun b548 =>
          (fX4_ending E b548 x541 x547 z530.2).bind fun z548 =>
          (gchk z548.2 4 v2).bind fun b554 =>
          (fX4_thrown E b554 z548.2).bind fun z554 =>
          if z554.1 = z530.1 then (
            if ¬ z530.1 = 0 then (
              fL_law_b581 E (fL_law_b23 E n) v0 v1 v2 v3 v4 z554.2)
            else (
              (gaL z554.2 v3 0).bind fun x571 =>
              if (lg_cmp x571 (Int32.toInt64 z548.1)) = 0 then (
                fL_law_b581 E (fL_law_b23 E n) v0 v1 v2 v3 v4 z554.2)
              else (
                if (0 : Int32) = 0 ∨ (0 : Int32) = 1 then some (0, z554.2) else none)))
          else (
            if (0 : Int32) = 0 ∨ (0 : Int32) = 1 then some (0, z554.2) else none))
        (fun _ => none))
      else
      if (x36 &&& 31) = 9 then (
        (gchk G 1 v1).bind fun b585 =>
        (fX1_differs E b585 G).bind fun z585 =>
        (gchk z585.2 4 v2).bind fun b589 =>
        (fX4_differs E b589 z585.2).bind fun z589 =>
        if z585.1 = z589.1 then (
          fL_law_b1090 E (fL_law_b23 E n) v0 v1 v2 v3 v4 z589.2)
        else (
          if (0 : Int32) = 0 ∨ (0 : Int32) = 1 then some (0, z589.2) else none))
      else
      if (x36 &&& 31) = 10 then (
        (gaI G 100 v0 (v4 + 1)).bind fun x603 =>
        (gaI G 100 v0 (v4 + 2)).bind fun x609 =>
        gcat (fX0_could E v1 x603 x609 v3 G) (fun z611 =>
          (gaI z611.2 100 v0 (v4 + 1)).bind fun x622 =>
          (gaI z611.2 100 v0 (v4 + 2)).bind fun x628 =>
          (gchk z611.2 4 v2).bind fun b629 =>
          (fX4_could E b629 x622 x628 z611.2).bind fun z629 =>
          (gchk z629.2 4 v2).bind fun b635 =>
          (fX4_thrown E b635 z629.2).bind fun z635 =>
          if z635.1 = z611.1 then (
            if ¬ z611.1 = 0 then (
              fL_law_b662 E (fL_law_b23 E n) v0 v1 v2 v3 v4 z635.2)
            else (
              (gaL z635.2 v3 0).bind fun x652 =>
              if (lg_cmp x652 (Int32.toInt64 z629.1)) = 0 then (
                fL_law_b662 E (fL_law_b23 E n) v0 v1 v2 v3 v4 z635.2)
              else (
                if (0 : Int32) = 0 ∨ (0 : Int32) = 1 then some (0, z635.2) else none)))
          else (
            if (0 : Int32) = 0 ∨ (0 : Int32) = 1 then some (0, z635.2) else none))
        (fun _ => none))
      else
      if (x36 &&& 31) = 11 then (
        (gchk G 1 v1).bind fun b666 =>
        (fX1_needs E b666 G).bind fun z666 =>
        (gchk z666.2 4 v2).bind fun b670 =>
        (fX4_needs E b670 z666.2).bind fun z670 =>
        if z666.1 = z670.1 then (
          fL_law_b1090 E (fL_law_b23 E n) v0 v1 v2 v3 v4 z670.2)
        else (
          if (0 : Int32) = 0 ∨ (0 : Int32) = 1 then some (0, z670.2) else none))
      else
      if (x36 &&& 31) = 12 then (
        (gchk G 1 v1).bind fun b679 =>
        (fX1_cut E b679 G).bind fun z679 =>
        (gchk z679.2 4 v2).bind fun b683 =>
        (fX4_cut E b683 z679.2).bind fun z683 =>
        if z679.1 = z683.1 then (
          fL_law_b1090 E (fL_law_b23 E n) v0 v1 v2 v3 v4 z683.2)
        else (
          if (0 : Int32) = 0 ∨ (0 : Int32) = 1 then some (0, z683.2) else none))
      else
      if (x36 &&& 31) = 13 then (
        (gaI G 100 v0 (v4 + 1)).bind fun x697 =>
        gcat (fX0_left E v1 x697 v3 G) (fun z699 =>
          (gaI z699.2 100 v0 (v4 + 1)).bind fun x710 =>
          (gchk z699.2 4 v2).bind fun b711 =>
          (fX4_left E b711 x710 z699.2).bind fun z711 =>
          (gchk z711.2 4 v2).bind fun b717 =>
          (fX4_thrown E b717 z711.2).bind fun z717 =>
          if z717.1 = z699.1 then (
            if ¬ z699.1 = 0 then (
              fL_law_b751 E (fL_law_b23 E n) v0 v1 v2 v3 v4 z717.2)
            else (
              (gaL z717.2 v3 0).bind fun x734 =>
              if z711.1 = 0 then (
                fL_law_b745 E (fL_law_b23 E n) v0 v1 v2 v3 v4 x734 0 z717.2)
              else (
                fL_law_b745 E (fL_law_b23 E n) v0 v1 v2 v3 v4 x734 1 z717.2)))
          else (
            if (0 : Int32) = 0 ∨ (0 : Int32) = 1 then some (0, z717.2) else none))
        (fun _ => none))
      else
      if (x36 &&& 31) = 14 then (
        (gaI G 100 v0 (v4 + 1)).bind fun x760 =>
        (gaI G 100 v0 (v4 + 2)).bind fun x766 =>
        (gaI G 100 v0 (v4 + 3)).bind fun x776 =>
        gcat (fX0_play E v1 x760 (((Int32.toInt64 x766) <<< (Int32.toInt64 32 &&& 63)) ||| ((Int32.toInt64 x776) &&& 4294967295)) v3 G) (fun z784 =>
          (gaI z784.2 100 v0 (v4 + 1)).bind fun x795 =>
          (gaI z784.2 100 v0 (v4 + 2)).bind fun x801 =>
          (gaI z784.2 100 v0 (v4 + 3)).bind fun x811 =>
          (gchk z784.2 4 v2).bind fun b818 =>
          (fX4_play E b818 x795 (((Int32.toInt64 x801) <<< (Int32.toInt64 32 &&& 63)) ||| ((Int32.toInt64 x811) &&& 4294967295)) z784.2).bind fun z818 =>
          (gchk z818.2 4 v2).bind fun b824 =>
          (fX4_thrown E b824 z818.2).bind fun z824 =>
          if z824.1 = z784.1 then (
            if ¬ z784.1 = 0 then (
              fL_law_b851 E (fL_law_b23 E n) v0 v1 v2 v3 v4 z824.2)
            else (
              (gaL z824.2 v3 0).bind fun x841 =>
              if (lg_cmp x841 (Int32.toInt64 z818.1)) = 0 then (
                fL_law_b851 E (fL_law_b23 E n) v0 v1 v2 v3 v4 z824.2)
              else (
                if (0 : Int32) = 0 ∨ (0 : Int32) = 1 then some (0, z824.2) else none)))
          else (
            if (0 : Int32) = 0 ∨ (0 : Int32) = 1 then some (0, z824.2) else none))
        (fun _ => none))
      else
      if (x36 &&& 31) = 15 then (
        (gaI G 100 v0 (v4 + 1)).bind fun x860 =>
        (gaI G 100 v0 (v4 + 2)).bind fun x866 =>
        gcat (fX0_of E v1 x860 x866 v3 G) (fun z868 =>
          (gaI z868.2 100 v0 (v4 + 1)).bind fun x879 =>
          (gaI z868.2 100 v0 (v4 + 2)).bind fun x885 =>
          (gchk z868.2 4 v2).bind fun b886 =>
          (fX4_of E b886 x879 x885 z868.2).bind fun z886 =>
          (gchk z886.2 4 v2).bind fun b892 =>
          (fX4_thrown E b892 z886.2).bind fun z892 =>
          if z892.1 = z868.1 then (
            if ¬ z868.1 = 0 then (
              fL_law_b919 E (fL_law_b23 E n) v0 v1 v2 v3 v4 z892.2)
            else (
              (gaL z892.2 v3 0).bind fun x909 =>
              if (lg_cmp x909 (Int32.toInt64 z886.1)) = 0 then (
                fL_law_b919 E (fL_law_b23 E n) v0 v1 v2 v3 v4 z892.2)
              else (
                if (0 : Int32) = 0 ∨ (0 : Int32) = 1 then some (0, z892.2) else none)))
          else (
            if (0 : Int32) = 0 ∨ (0 : Int32) = 1 then some (0, z892.2) else none))
        (fun _ => none))
      else
      if (x36 &&& 31) = 16 then (
        (gaI G 100 v0 (v4 + 1)).bind fun x928 =>
        gcat (fX0_ring E v1 x928 v3 G) (fun z930 =>
          (gaI z930.2 100 v0 (v4 + 1)).bind fun x941 =>
          (gchk z930.2 4 v2).bind fun b942 =>
          (fX4_ring E b942 x941 z930.2).bind fun z942 =>
          (gchk z942.2 4 v2).bind fun b948 =>
          (fX4_thrown E b948 z942.2).bind fun z948 =>
          if z948.1 = z930.1 then (
            if ¬ z930.1 = 0 then (
              fL_law_b975 E (fL_law_b23 E n) v0 v1 v2 v3 v4 z948.2)
            else (
              (gaL z948.2 v3 0).bind fun x965 =>
              if (lg_cmp x965 (Int32.toInt64 z942.1)) = 0 then (
                fL_law_b975 E (fL_law_b23 E n) v0 v1 v2 v3 v4 z948.2)
              else (
                if (0 : Int32) = 0 ∨ (0 : Int32) = 1 then some (0, z948.2) else none)))
          else (
            if (0 : Int32) = 0 ∨ (0 : Int32) = 1 then some (0, z948.2) else none))
        (fun _ => none))
      else
      if (x36 &&& 31) = 17 then (
        (gaI G 100 v0 (v4 + 1)).bind fun x984 =>
        gcat (fX0_chose E v1 x984 v3 G) (fun z986 =>
          (gaI z986.2 100 v0 (v4 + 1)).bind fun x997 =>
          (gchk z986.2 4 v2).bind fun b998 =>
          (fX4_chose E b998 x997 z986.2).bind fun z998 =>
          (gchk z998.2 4 v2).bind fun b1004 =>
          (fX4_thrown E b1004 z998.2).bind fun z1004 =>
          if z1004.1 = z986.1 then (
            if ¬ z986.1 = 0 then (
              fL_law_b1031 E (fL_law_b23 E n) v0 v1 v2 v3 v4 z1004.2)
            else (
              (gaL z1004.2 v3 0).bind fun x1021 =>
              if (lg_cmp x1021 (Int32.toInt64 z998.1)) = 0 then (
                fL_law_b1031 E (fL_law_b23 E n) v0 v1 v2 v3 v4 z1004.2)
              else (
                if (0 : Int32) = 0 ∨ (0 : Int32) = 1 then some (0, z1004.2) else none)))
          else (
            if (0 : Int32) = 0 ∨ (0 : Int32) = 1 then some (0, z1004.2) else none))
        (fun _ => none))
      else
      if (x36 &&& 31) = 18 then (
        (gaI G 100 v0 (v4 + 1)).bind fun x1040 =>
        gcat (fX0_least E v1 x1040 v3 G) (fun z1042 =>
          (gaI z1042.2 100 v0 (v4 + 1)).bind fun x1053 =>
          (gchk z1042.2 4 v2).bind fun b1054 =>
          (fX4_least E b1054 x1053 z1042.2).bind fun z1054 =>
          (gchk z1054.2 4 v2).bind fun b1060 =>
          (fX4_thrown E b1060 z1054.2).bind fun z1060 =>
          if z1060.1 = z1042.1 then (
            if ¬ z1042.1 = 0 then (
              fL_law_b1087 E (fL_law_b23 E n) v0 v1 v2 v3 v4 z1060.2)
            else (
              (gaL z1060.2 v3 0).bind fun x1077 =>
              if (lg_cmp x1077 (Int32.toInt64 z1054.1)) = 0 then (
                fL_law_b1087 E (fL_law_b23 E n) v0 v1 v2 v3 v4 z1060.2)
              else (
                if (0 : Int32) = 0 ∨ (0 : Int32) = 1 then some (0, z1060.2) else none)))
          else (
            if (0 : Int32) = 0 ∨ (0 : Int32) = 1 then some (0, z1060.2) else none))
        (fun _ => none))
      else
      (
        fL_law_b1090 E (fL_law_b23 E n) v0 v1 v2 v3 v4 G))
def fL_law (E : g_E) (v0 : Option Nat) (G : g_G) : Option (Int32 × g_G) :=
  (gnewO E G 1 33).bind fun z0 =>
  (fX1_init E z0.1 z0.2).bind fun z4 =>
  (gnewO E z4 4 70).bind fun z8 =>
  (fX4_init E z8.1 z8.2).bind fun z12 =>
  (gnewA E z12 110 1).bind fun z17 =>
  fL_law_b23 E gFU v0 (some z0.1) (some z8.1) (some z17.1) 0 z17.2
theorem sL_law_b1090 {p : Program} {l : Launch} {e : Env} {R : Room} {s : State} {m : MethodId} {args : Array Value} {below : List Frame} {meth : Method} {c : Code} {E : g_E} {D : g_D} (C : gCL p R s m args meth c cL_law 7 R_law "law" (some .boolean) 8192 100000 E D) (hlT : l.stackTraces = false) {k23 : (Option Nat) → (Option Nat) → (Option Nat) → (Option Nat) → Int32 → g_G → Option (Int32 × g_G)} (hk23 : ∀ (v0 : Option Nat) (v1 : Option Nat) (v2 : Option Nat) (v3 : Option Nat) (v4 : Int32) (G : g_G) (q : Int32 × g_G), k23 v0 v1 v2 v3 v4 G = some q → q.1 = 1 → ∀ (H : Heap) (locs : List Loc) (cells slots : Nat) (ls : Array Slot), gSt E D G H locs → gls ls 7 [(0, .inr (.inr v0)), (1, .inr (.inr v1)), (2, .inr (.inr v2)), (3, .inr (.inr v3)), (4, .inl v4)] → W p l e R s m args below meth c H locs cells slots (lw_Z below args s) (F0 m 23 ls [])) : ∀ (v0 : Option Nat) (v1 : Option Nat) (v2 : Option Nat) (v3 : Option Nat) (v4 : Int32) (G : g_G) (q : Int32 × g_G), fL_law_b1090 E k23 v0 v1 v2 v3 v4 G = some q → q.1 = 1 → ∀ (H : Heap) (locs : List Loc) (cells slots : Nat) (ls : Array Slot), gSt E D G H locs → gls ls 7 [(0, .inr (.inr v0)), (1, .inr (.inr v1)), (2, .inr (.inr v2)), (3, .inr (.inr v3)), (4, .inl v4)] → W p l e R s m args below meth c H locs cells slots (lw_Z below args s) (F0 m 1090 ls []) := by
  obtain ⟨hx, hb, hml, hown, hts, hKn, hRc, hRs, hc1, hc2, hRf, hRl, hr, hlk, hnm⟩ := id C
  intro v0 v1 v2 v3 v4 G q h hq1 H locs cells slots ls hS hl
  unfold fL_law_b1090 at h
  refine g_iinc (l1 := [(4, .inl (v4 + 6)), (0, .inr (.inr v0)), (1, .inr (.inr v1)), (2, .inr (.inr v2)), (3, .inr (.inr v3))]) (v := (v4 + 6)) hx hb hl (k := 4) rfl (by rfl) (by decide) rfl dL_law_1090 (fun ls hl => ?_)
  refine lv_goto (tgt := 23) hx hb dL_law_1093 (by decide) ?_
  exact hk23 _ _ _ _ _ _ _ h hq1 _ _ _ _ _ hS (gls_sub hl [1, 2, 3, 4, 0] rfl)
theorem sL_law_b1087 {p : Program} {l : Launch} {e : Env} {R : Room} {s : State} {m : MethodId} {args : Array Value} {below : List Frame} {meth : Method} {c : Code} {E : g_E} {D : g_D} (C : gCL p R s m args meth c cL_law 7 R_law "law" (some .boolean) 8192 100000 E D) (hlT : l.stackTraces = false) {k23 : (Option Nat) → (Option Nat) → (Option Nat) → (Option Nat) → Int32 → g_G → Option (Int32 × g_G)} (hk23 : ∀ (v0 : Option Nat) (v1 : Option Nat) (v2 : Option Nat) (v3 : Option Nat) (v4 : Int32) (G : g_G) (q : Int32 × g_G), k23 v0 v1 v2 v3 v4 G = some q → q.1 = 1 → ∀ (H : Heap) (locs : List Loc) (cells slots : Nat) (ls : Array Slot), gSt E D G H locs → gls ls 7 [(0, .inr (.inr v0)), (1, .inr (.inr v1)), (2, .inr (.inr v2)), (3, .inr (.inr v3)), (4, .inl v4)] → W p l e R s m args below meth c H locs cells slots (lw_Z below args s) (F0 m 23 ls [])) : ∀ (v0 : Option Nat) (v1 : Option Nat) (v2 : Option Nat) (v3 : Option Nat) (v4 : Int32) (G : g_G) (q : Int32 × g_G), fL_law_b1087 E k23 v0 v1 v2 v3 v4 G = some q → q.1 = 1 → ∀ (H : Heap) (locs : List Loc) (cells slots : Nat) (ls : Array Slot), gSt E D G H locs → gls ls 7 [(0, .inr (.inr v0)), (1, .inr (.inr v1)), (2, .inr (.inr v2)), (3, .inr (.inr v3)), (4, .inl v4)] → W p l e R s m args below meth c H locs cells slots (lw_Z below args s) (F0 m 1087 ls []) := by
  obtain ⟨hx, hb, hml, hown, hts, hKn, hRc, hRs, hc1, hc2, hRf, hRl, hr, hlk, hnm⟩ := id C
  intro v0 v1 v2 v3 v4 G q h hq1 H locs cells slots ls hS hl
  unfold fL_law_b1087 at h
  refine lv_goto (tgt := 1090) hx hb dL_law_1087 (by decide) ?_
  exact sL_law_b1090 C hlT hk23 _ _ _ _ _ _ _ h hq1 _ _ _ _ _ hS (gls_sub hl [0, 1, 2, 3, 4] rfl)
theorem sL_law_b1031 {p : Program} {l : Launch} {e : Env} {R : Room} {s : State} {m : MethodId} {args : Array Value} {below : List Frame} {meth : Method} {c : Code} {E : g_E} {D : g_D} (C : gCL p R s m args meth c cL_law 7 R_law "law" (some .boolean) 8192 100000 E D) (hlT : l.stackTraces = false) {k23 : (Option Nat) → (Option Nat) → (Option Nat) → (Option Nat) → Int32 → g_G → Option (Int32 × g_G)} (hk23 : ∀ (v0 : Option Nat) (v1 : Option Nat) (v2 : Option Nat) (v3 : Option Nat) (v4 : Int32) (G : g_G) (q : Int32 × g_G), k23 v0 v1 v2 v3 v4 G = some q → q.1 = 1 → ∀ (H : Heap) (locs : List Loc) (cells slots : Nat) (ls : Array Slot), gSt E D G H locs → gls ls 7 [(0, .inr (.inr v0)), (1, .inr (.inr v1)), (2, .inr (.inr v2)), (3, .inr (.inr v3)), (4, .inl v4)] → W p l e R s m args below meth c H locs cells slots (lw_Z below args s) (F0 m 23 ls [])) : ∀ (v0 : Option Nat) (v1 : Option Nat) (v2 : Option Nat) (v3 : Option Nat) (v4 : Int32) (G : g_G) (q : Int32 × g_G), fL_law_b1031 E k23 v0 v1 v2 v3 v4 G = some q → q.1 = 1 → ∀ (H : Heap) (locs : List Loc) (cells slots : Nat) (ls : Array Slot), gSt E D G H locs → gls ls 7 [(0, .inr (.inr v0)), (1, .inr (.inr v1)), (2, .inr (.inr v2)), (3, .inr (.inr v3)), (4, .inl v4)] → W p l e R s m args below meth c H locs cells slots (lw_Z below args s) (F0 m 1031 ls []) := by
  obtain ⟨hx, hb, hml, hown, hts, hKn, hRc, hRs, hc1, hc2, hRf, hRl, hr, hlk, hnm⟩ := id C
  intro v0 v1 v2 v3 v4 G q h hq1 H locs cells slots ls hS hl
  unfold fL_law_b1031 at h
  refine lv_goto (tgt := 1090) hx hb dL_law_1031 (by decide) ?_
  exact sL_law_b1090 C hlT hk23 _ _ _ _ _ _ _ h hq1 _ _ _ _ _ hS (gls_sub hl [0, 1, 2, 3, 4] rfl)
theorem sL_law_b975 {p : Program} {l : Launch} {e : Env} {R : Room} {s : State} {m : MethodId} {args : Array Value} {below : List Frame} {meth : Method} {c : Code} {E : g_E} {D : g_D} (C : gCL p R s m args meth c cL_law 7 R_law "law" (some .boolean) 8192 100000 E D) (hlT : l.stackTraces = false) {k23 : (Option Nat) → (Option Nat) → (Option Nat) → (Option Nat) → Int32 → g_G → Option (Int32 × g_G)} (hk23 : ∀ (v0 : Option Nat) (v1 : Option Nat) (v2 : Option Nat) (v3 : Option Nat) (v4 : Int32) (G : g_G) (q : Int32 × g_G), k23 v0 v1 v2 v3 v4 G = some q → q.1 = 1 → ∀ (H : Heap) (locs : List Loc) (cells slots : Nat) (ls : Array Slot), gSt E D G H locs → gls ls 7 [(0, .inr (.inr v0)), (1, .inr (.inr v1)), (2, .inr (.inr v2)), (3, .inr (.inr v3)), (4, .inl v4)] → W p l e R s m args below meth c H locs cells slots (lw_Z below args s) (F0 m 23 ls [])) : ∀ (v0 : Option Nat) (v1 : Option Nat) (v2 : Option Nat) (v3 : Option Nat) (v4 : Int32) (G : g_G) (q : Int32 × g_G), fL_law_b975 E k23 v0 v1 v2 v3 v4 G = some q → q.1 = 1 → ∀ (H : Heap) (locs : List Loc) (cells slots : Nat) (ls : Array Slot), gSt E D G H locs → gls ls 7 [(0, .inr (.inr v0)), (1, .inr (.inr v1)), (2, .inr (.inr v2)), (3, .inr (.inr v3)), (4, .inl v4)] → W p l e R s m args below meth c H locs cells slots (lw_Z below args s) (F0 m 975 ls []) := by
  obtain ⟨hx, hb, hml, hown, hts, hKn, hRc, hRs, hc1, hc2, hRf, hRl, hr, hlk, hnm⟩ := id C
  intro v0 v1 v2 v3 v4 G q h hq1 H locs cells slots ls hS hl
  unfold fL_law_b975 at h
  refine lv_goto (tgt := 1090) hx hb dL_law_975 (by decide) ?_
  exact sL_law_b1090 C hlT hk23 _ _ _ _ _ _ _ h hq1 _ _ _ _ _ hS (gls_sub hl [0, 1, 2, 3, 4] rfl)
theorem sL_law_b919 {p : Program} {l : Launch} {e : Env} {R : Room} {s : State} {m : MethodId} {args : Array Value} {below : List Frame} {meth : Method} {c : Code} {E : g_E} {D : g_D} (C : gCL p R s m args meth c cL_law 7 R_law "law" (some .boolean) 8192 100000 E D) (hlT : l.stackTraces = false) {k23 : (Option Nat) → (Option Nat) → (Option Nat) → (Option Nat) → Int32 → g_G → Option (Int32 × g_G)} (hk23 : ∀ (v0 : Option Nat) (v1 : Option Nat) (v2 : Option Nat) (v3 : Option Nat) (v4 : Int32) (G : g_G) (q : Int32 × g_G), k23 v0 v1 v2 v3 v4 G = some q → q.1 = 1 → ∀ (H : Heap) (locs : List Loc) (cells slots : Nat) (ls : Array Slot), gSt E D G H locs → gls ls 7 [(0, .inr (.inr v0)), (1, .inr (.inr v1)), (2, .inr (.inr v2)), (3, .inr (.inr v3)), (4, .inl v4)] → W p l e R s m args below meth c H locs cells slots (lw_Z below args s) (F0 m 23 ls [])) : ∀ (v0 : Option Nat) (v1 : Option Nat) (v2 : Option Nat) (v3 : Option Nat) (v4 : Int32) (G : g_G) (q : Int32 × g_G), fL_law_b919 E k23 v0 v1 v2 v3 v4 G = some q → q.1 = 1 → ∀ (H : Heap) (locs : List Loc) (cells slots : Nat) (ls : Array Slot), gSt E D G H locs → gls ls 7 [(0, .inr (.inr v0)), (1, .inr (.inr v1)), (2, .inr (.inr v2)), (3, .inr (.inr v3)), (4, .inl v4)] → W p l e R s m args below meth c H locs cells slots (lw_Z below args s) (F0 m 919 ls []) := by
  obtain ⟨hx, hb, hml, hown, hts, hKn, hRc, hRs, hc1, hc2, hRf, hRl, hr, hlk, hnm⟩ := id C
  intro v0 v1 v2 v3 v4 G q h hq1 H locs cells slots ls hS hl
  unfold fL_law_b919 at h
  refine lv_goto (tgt := 1090) hx hb dL_law_919 (by decide) ?_
  exact sL_law_b1090 C hlT hk23 _ _ _ _ _ _ _ h hq1 _ _ _ _ _ hS (gls_sub hl [0, 1, 2, 3, 4] rfl)
theorem sL_law_b851 {p : Program} {l : Launch} {e : Env} {R : Room} {s : State} {m : MethodId} {args : Array Value} {below : List Frame} {meth : Method} {c : Code} {E : g_E} {D : g_D} (C : gCL p R s m args meth c cL_law 7 R_law "law" (some .boolean) 8192 100000 E D) (hlT : l.stackTraces = false) {k23 : (Option Nat) → (Option Nat) → (Option Nat) → (Option Nat) → Int32 → g_G → Option (Int32 × g_G)} (hk23 : ∀ (v0 : Option Nat) (v1 : Option Nat) (v2 : Option Nat) (v3 : Option Nat) (v4 : Int32) (G : g_G) (q : Int32 × g_G), k23 v0 v1 v2 v3 v4 G = some q → q.1 = 1 → ∀ (H : Heap) (locs : List Loc) (cells slots : Nat) (ls : Array Slot), gSt E D G H locs → gls ls 7 [(0, .inr (.inr v0)), (1, .inr (.inr v1)), (2, .inr (.inr v2)), (3, .inr (.inr v3)), (4, .inl v4)] → W p l e R s m args below meth c H locs cells slots (lw_Z below args s) (F0 m 23 ls [])) : ∀ (v0 : Option Nat) (v1 : Option Nat) (v2 : Option Nat) (v3 : Option Nat) (v4 : Int32) (G : g_G) (q : Int32 × g_G), fL_law_b851 E k23 v0 v1 v2 v3 v4 G = some q → q.1 = 1 → ∀ (H : Heap) (locs : List Loc) (cells slots : Nat) (ls : Array Slot), gSt E D G H locs → gls ls 7 [(0, .inr (.inr v0)), (1, .inr (.inr v1)), (2, .inr (.inr v2)), (3, .inr (.inr v3)), (4, .inl v4)] → W p l e R s m args below meth c H locs cells slots (lw_Z below args s) (F0 m 851 ls []) := by
  obtain ⟨hx, hb, hml, hown, hts, hKn, hRc, hRs, hc1, hc2, hRf, hRl, hr, hlk, hnm⟩ := id C
  intro v0 v1 v2 v3 v4 G q h hq1 H locs cells slots ls hS hl
  unfold fL_law_b851 at h
  refine lv_goto (tgt := 1090) hx hb dL_law_851 (by decide) ?_
  exact sL_law_b1090 C hlT hk23 _ _ _ _ _ _ _ h hq1 _ _ _ _ _ hS (gls_sub hl [0, 1, 2, 3, 4] rfl)
theorem sL_law_b751 {p : Program} {l : Launch} {e : Env} {R : Room} {s : State} {m : MethodId} {args : Array Value} {below : List Frame} {meth : Method} {c : Code} {E : g_E} {D : g_D} (C : gCL p R s m args meth c cL_law 7 R_law "law" (some .boolean) 8192 100000 E D) (hlT : l.stackTraces = false) {k23 : (Option Nat) → (Option Nat) → (Option Nat) → (Option Nat) → Int32 → g_G → Option (Int32 × g_G)} (hk23 : ∀ (v0 : Option Nat) (v1 : Option Nat) (v2 : Option Nat) (v3 : Option Nat) (v4 : Int32) (G : g_G) (q : Int32 × g_G), k23 v0 v1 v2 v3 v4 G = some q → q.1 = 1 → ∀ (H : Heap) (locs : List Loc) (cells slots : Nat) (ls : Array Slot), gSt E D G H locs → gls ls 7 [(0, .inr (.inr v0)), (1, .inr (.inr v1)), (2, .inr (.inr v2)), (3, .inr (.inr v3)), (4, .inl v4)] → W p l e R s m args below meth c H locs cells slots (lw_Z below args s) (F0 m 23 ls [])) : ∀ (v0 : Option Nat) (v1 : Option Nat) (v2 : Option Nat) (v3 : Option Nat) (v4 : Int32) (G : g_G) (q : Int32 × g_G), fL_law_b751 E k23 v0 v1 v2 v3 v4 G = some q → q.1 = 1 → ∀ (H : Heap) (locs : List Loc) (cells slots : Nat) (ls : Array Slot), gSt E D G H locs → gls ls 7 [(0, .inr (.inr v0)), (1, .inr (.inr v1)), (2, .inr (.inr v2)), (3, .inr (.inr v3)), (4, .inl v4)] → W p l e R s m args below meth c H locs cells slots (lw_Z below args s) (F0 m 751 ls []) := by
  obtain ⟨hx, hb, hml, hown, hts, hKn, hRc, hRs, hc1, hc2, hRf, hRl, hr, hlk, hnm⟩ := id C
  intro v0 v1 v2 v3 v4 G q h hq1 H locs cells slots ls hS hl
  unfold fL_law_b751 at h
  refine lv_goto (tgt := 1090) hx hb dL_law_751 (by decide) ?_
  exact sL_law_b1090 C hlT hk23 _ _ _ _ _ _ _ h hq1 _ _ _ _ _ hS (gls_sub hl [0, 1, 2, 3, 4] rfl)
theorem sL_law_b745 {p : Program} {l : Launch} {e : Env} {R : Room} {s : State} {m : MethodId} {args : Array Value} {below : List Frame} {meth : Method} {c : Code} {E : g_E} {D : g_D} (C : gCL p R s m args meth c cL_law 7 R_law "law" (some .boolean) 8192 100000 E D) (hlT : l.stackTraces = false) {k23 : (Option Nat) → (Option Nat) → (Option Nat) → (Option Nat) → Int32 → g_G → Option (Int32 × g_G)} (hk23 : ∀ (v0 : Option Nat) (v1 : Option Nat) (v2 : Option Nat) (v3 : Option Nat) (v4 : Int32) (G : g_G) (q : Int32 × g_G), k23 v0 v1 v2 v3 v4 G = some q → q.1 = 1 → ∀ (H : Heap) (locs : List Loc) (cells slots : Nat) (ls : Array Slot), gSt E D G H locs → gls ls 7 [(0, .inr (.inr v0)), (1, .inr (.inr v1)), (2, .inr (.inr v2)), (3, .inr (.inr v3)), (4, .inl v4)] → W p l e R s m args below meth c H locs cells slots (lw_Z below args s) (F0 m 23 ls [])) : ∀ (v0 : Option Nat) (v1 : Option Nat) (v2 : Option Nat) (v3 : Option Nat) (v4 : Int32) (s0 : Int64) (s1 : Int64) (G : g_G) (q : Int32 × g_G), fL_law_b745 E k23 v0 v1 v2 v3 v4 s0 s1 G = some q → q.1 = 1 → ∀ (H : Heap) (locs : List Loc) (cells slots : Nat) (ls : Array Slot), gSt E D G H locs → gls ls 7 [(0, .inr (.inr v0)), (1, .inr (.inr v1)), (2, .inr (.inr v2)), (3, .inr (.inr v3)), (4, .inl v4)] → W p l e R s m args below meth c H locs cells slots (lw_Z below args s) (F0 m 745 ls [.long s1, .long s0]) := by
  obtain ⟨hx, hb, hml, hown, hts, hKn, hRc, hRs, hc1, hc2, hRf, hRl, hr, hlk, hnm⟩ := id C
  intro v0 v1 v2 v3 v4 s0 s1 G q h hq1 H locs cells slots ls hS hl
  unfold fL_law_b745 at h
  refine W.lcmp hx hb dL_law_745 ?_
  refine lv_if_eq (tgt := 751) hx hb dL_law_746 (by decide) (fun c_746 => ?_) (fun c_746 => ?_)
  · have h := g_ift c_746 h
    exact sL_law_b751 C hlT hk23 _ _ _ _ _ _ _ h hq1 _ _ _ _ _ hS (gls_sub hl [0, 1, 2, 3, 4] rfl)
  · have h := g_iff c_746 h
    refine lv_iconst (v := 0) hx hb dL_law_749 (by decide) ?_
    exact g_lret hx hb hr hlk hRc hRs hnm hS h hq1 dL_law_750
theorem sL_law_b662 {p : Program} {l : Launch} {e : Env} {R : Room} {s : State} {m : MethodId} {args : Array Value} {below : List Frame} {meth : Method} {c : Code} {E : g_E} {D : g_D} (C : gCL p R s m args meth c cL_law 7 R_law "law" (some .boolean) 8192 100000 E D) (hlT : l.stackTraces = false) {k23 : (Option Nat) → (Option Nat) → (Option Nat) → (Option Nat) → Int32 → g_G → Option (Int32 × g_G)} (hk23 : ∀ (v0 : Option Nat) (v1 : Option Nat) (v2 : Option Nat) (v3 : Option Nat) (v4 : Int32) (G : g_G) (q : Int32 × g_G), k23 v0 v1 v2 v3 v4 G = some q → q.1 = 1 → ∀ (H : Heap) (locs : List Loc) (cells slots : Nat) (ls : Array Slot), gSt E D G H locs → gls ls 7 [(0, .inr (.inr v0)), (1, .inr (.inr v1)), (2, .inr (.inr v2)), (3, .inr (.inr v3)), (4, .inl v4)] → W p l e R s m args below meth c H locs cells slots (lw_Z below args s) (F0 m 23 ls [])) : ∀ (v0 : Option Nat) (v1 : Option Nat) (v2 : Option Nat) (v3 : Option Nat) (v4 : Int32) (G : g_G) (q : Int32 × g_G), fL_law_b662 E k23 v0 v1 v2 v3 v4 G = some q → q.1 = 1 → ∀ (H : Heap) (locs : List Loc) (cells slots : Nat) (ls : Array Slot), gSt E D G H locs → gls ls 7 [(0, .inr (.inr v0)), (1, .inr (.inr v1)), (2, .inr (.inr v2)), (3, .inr (.inr v3)), (4, .inl v4)] → W p l e R s m args below meth c H locs cells slots (lw_Z below args s) (F0 m 662 ls []) := by
  obtain ⟨hx, hb, hml, hown, hts, hKn, hRc, hRs, hc1, hc2, hRf, hRl, hr, hlk, hnm⟩ := id C
  intro v0 v1 v2 v3 v4 G q h hq1 H locs cells slots ls hS hl
  unfold fL_law_b662 at h
  refine lv_goto (tgt := 1090) hx hb dL_law_662 (by decide) ?_
  exact sL_law_b1090 C hlT hk23 _ _ _ _ _ _ _ h hq1 _ _ _ _ _ hS (gls_sub hl [0, 1, 2, 3, 4] rfl)
theorem sL_law_b581 {p : Program} {l : Launch} {e : Env} {R : Room} {s : State} {m : MethodId} {args : Array Value} {below : List Frame} {meth : Method} {c : Code} {E : g_E} {D : g_D} (C : gCL p R s m args meth c cL_law 7 R_law "law" (some .boolean) 8192 100000 E D) (hlT : l.stackTraces = false) {k23 : (Option Nat) → (Option Nat) → (Option Nat) → (Option Nat) → Int32 → g_G → Option (Int32 × g_G)} (hk23 : ∀ (v0 : Option Nat) (v1 : Option Nat) (v2 : Option Nat) (v3 : Option Nat) (v4 : Int32) (G : g_G) (q : Int32 × g_G), k23 v0 v1 v2 v3 v4 G = some q → q.1 = 1 → ∀ (H : Heap) (locs : List Loc) (cells slots : Nat) (ls : Array Slot), gSt E D G H locs → gls ls 7 [(0, .inr (.inr v0)), (1, .inr (.inr v1)), (2, .inr (.inr v2)), (3, .inr (.inr v3)), (4, .inl v4)] → W p l e R s m args below meth c H locs cells slots (lw_Z below args s) (F0 m 23 ls [])) : ∀ (v0 : Option Nat) (v1 : Option Nat) (v2 : Option Nat) (v3 : Option Nat) (v4 : Int32) (G : g_G) (q : Int32 × g_G), fL_law_b581 E k23 v0 v1 v2 v3 v4 G = some q → q.1 = 1 → ∀ (H : Heap) (locs : List Loc) (cells slots : Nat) (ls : Array Slot), gSt E D G H locs → gls ls 7 [(0, .inr (.inr v0)), (1, .inr (.inr v1)), (2, .inr (.inr v2)), (3, .inr (.inr v3)), (4, .inl v4)] → W p l e R s m args below meth c H locs cells slots (lw_Z below args s) (F0 m 581 ls []) := by
  obtain ⟨hx, hb, hml, hown, hts, hKn, hRc, hRs, hc1, hc2, hRf, hRl, hr, hlk, hnm⟩ := id C
  intro v0 v1 v2 v3 v4 G q h hq1 H locs cells slots ls hS hl
  unfold fL_law_b581 at h
  refine lv_goto (tgt := 1090) hx hb dL_law_581 (by decide) ?_
  exact sL_law_b1090 C hlT hk23 _ _ _ _ _ _ _ h hq1 _ _ _ _ _ hS (gls_sub hl [0, 1, 2, 3, 4] rfl)
theorem sL_law_b513 {p : Program} {l : Launch} {e : Env} {R : Room} {s : State} {m : MethodId} {args : Array Value} {below : List Frame} {meth : Method} {c : Code} {E : g_E} {D : g_D} (C : gCL p R s m args meth c cL_law 7 R_law "law" (some .boolean) 8192 100000 E D) (hlT : l.stackTraces = false) {k23 : (Option Nat) → (Option Nat) → (Option Nat) → (Option Nat) → Int32 → g_G → Option (Int32 × g_G)} (hk23 : ∀ (v0 : Option Nat) (v1 : Option Nat) (v2 : Option Nat) (v3 : Option Nat) (v4 : Int32) (G : g_G) (q : Int32 × g_G), k23 v0 v1 v2 v3 v4 G = some q → q.1 = 1 → ∀ (H : Heap) (locs : List Loc) (cells slots : Nat) (ls : Array Slot), gSt E D G H locs → gls ls 7 [(0, .inr (.inr v0)), (1, .inr (.inr v1)), (2, .inr (.inr v2)), (3, .inr (.inr v3)), (4, .inl v4)] → W p l e R s m args below meth c H locs cells slots (lw_Z below args s) (F0 m 23 ls [])) : ∀ (v0 : Option Nat) (v1 : Option Nat) (v2 : Option Nat) (v3 : Option Nat) (v4 : Int32) (G : g_G) (q : Int32 × g_G), fL_law_b513 E k23 v0 v1 v2 v3 v4 G = some q → q.1 = 1 → ∀ (H : Heap) (locs : List Loc) (cells slots : Nat) (ls : Array Slot), gSt E D G H locs → gls ls 7 [(0, .inr (.inr v0)), (1, .inr (.inr v1)), (2, .inr (.inr v2)), (3, .inr (.inr v3)), (4, .inl v4)] → W p l e R s m args below meth c H locs cells slots (lw_Z below args s) (F0 m 513 ls []) := by
  obtain ⟨hx, hb, hml, hown, hts, hKn, hRc, hRs, hc1, hc2, hRf, hRl, hr, hlk, hnm⟩ := id C
  intro v0 v1 v2 v3 v4 G q h hq1 H locs cells slots ls hS hl
  unfold fL_law_b513 at h
  refine lv_goto (tgt := 1090) hx hb dL_law_513 (by decide) ?_
  exact sL_law_b1090 C hlT hk23 _ _ _ _ _ _ _ h hq1 _ _ _ _ _ hS (gls_sub hl [0, 1, 2, 3, 4] rfl)
theorem sL_law_b444 {p : Program} {l : Launch} {e : Env} {R : Room} {s : State} {m : MethodId} {args : Array Value} {below : List Frame} {meth : Method} {c : Code} {E : g_E} {D : g_D} (C : gCL p R s m args meth c cL_law 7 R_law "law" (some .boolean) 8192 100000 E D) (hlT : l.stackTraces = false) {k23 : (Option Nat) → (Option Nat) → (Option Nat) → (Option Nat) → Int32 → g_G → Option (Int32 × g_G)} (hk23 : ∀ (v0 : Option Nat) (v1 : Option Nat) (v2 : Option Nat) (v3 : Option Nat) (v4 : Int32) (G : g_G) (q : Int32 × g_G), k23 v0 v1 v2 v3 v4 G = some q → q.1 = 1 → ∀ (H : Heap) (locs : List Loc) (cells slots : Nat) (ls : Array Slot), gSt E D G H locs → gls ls 7 [(0, .inr (.inr v0)), (1, .inr (.inr v1)), (2, .inr (.inr v2)), (3, .inr (.inr v3)), (4, .inl v4)] → W p l e R s m args below meth c H locs cells slots (lw_Z below args s) (F0 m 23 ls [])) : ∀ (v0 : Option Nat) (v1 : Option Nat) (v2 : Option Nat) (v3 : Option Nat) (v4 : Int32) (G : g_G) (q : Int32 × g_G), fL_law_b444 E k23 v0 v1 v2 v3 v4 G = some q → q.1 = 1 → ∀ (H : Heap) (locs : List Loc) (cells slots : Nat) (ls : Array Slot), gSt E D G H locs → gls ls 7 [(0, .inr (.inr v0)), (1, .inr (.inr v1)), (2, .inr (.inr v2)), (3, .inr (.inr v3)), (4, .inl v4)] → W p l e R s m args below meth c H locs cells slots (lw_Z below args s) (F0 m 444 ls []) := by
  obtain ⟨hx, hb, hml, hown, hts, hKn, hRc, hRs, hc1, hc2, hRf, hRl, hr, hlk, hnm⟩ := id C
  intro v0 v1 v2 v3 v4 G q h hq1 H locs cells slots ls hS hl
  unfold fL_law_b444 at h
  refine lv_goto (tgt := 1090) hx hb dL_law_444 (by decide) ?_
  exact sL_law_b1090 C hlT hk23 _ _ _ _ _ _ _ h hq1 _ _ _ _ _ hS (gls_sub hl [0, 1, 2, 3, 4] rfl)
theorem sL_law_b388 {p : Program} {l : Launch} {e : Env} {R : Room} {s : State} {m : MethodId} {args : Array Value} {below : List Frame} {meth : Method} {c : Code} {E : g_E} {D : g_D} (C : gCL p R s m args meth c cL_law 7 R_law "law" (some .boolean) 8192 100000 E D) (hlT : l.stackTraces = false) {k23 : (Option Nat) → (Option Nat) → (Option Nat) → (Option Nat) → Int32 → g_G → Option (Int32 × g_G)} (hk23 : ∀ (v0 : Option Nat) (v1 : Option Nat) (v2 : Option Nat) (v3 : Option Nat) (v4 : Int32) (G : g_G) (q : Int32 × g_G), k23 v0 v1 v2 v3 v4 G = some q → q.1 = 1 → ∀ (H : Heap) (locs : List Loc) (cells slots : Nat) (ls : Array Slot), gSt E D G H locs → gls ls 7 [(0, .inr (.inr v0)), (1, .inr (.inr v1)), (2, .inr (.inr v2)), (3, .inr (.inr v3)), (4, .inl v4)] → W p l e R s m args below meth c H locs cells slots (lw_Z below args s) (F0 m 23 ls [])) : ∀ (v0 : Option Nat) (v1 : Option Nat) (v2 : Option Nat) (v3 : Option Nat) (v4 : Int32) (G : g_G) (q : Int32 × g_G), fL_law_b388 E k23 v0 v1 v2 v3 v4 G = some q → q.1 = 1 → ∀ (H : Heap) (locs : List Loc) (cells slots : Nat) (ls : Array Slot), gSt E D G H locs → gls ls 7 [(0, .inr (.inr v0)), (1, .inr (.inr v1)), (2, .inr (.inr v2)), (3, .inr (.inr v3)), (4, .inl v4)] → W p l e R s m args below meth c H locs cells slots (lw_Z below args s) (F0 m 388 ls []) := by
  obtain ⟨hx, hb, hml, hown, hts, hKn, hRc, hRs, hc1, hc2, hRf, hRl, hr, hlk, hnm⟩ := id C
  intro v0 v1 v2 v3 v4 G q h hq1 H locs cells slots ls hS hl
  unfold fL_law_b388 at h
  refine lv_goto (tgt := 1090) hx hb dL_law_388 (by decide) ?_
  exact sL_law_b1090 C hlT hk23 _ _ _ _ _ _ _ h hq1 _ _ _ _ _ hS (gls_sub hl [0, 1, 2, 3, 4] rfl)
theorem sL_law_b258 {p : Program} {l : Launch} {e : Env} {R : Room} {s : State} {m : MethodId} {args : Array Value} {below : List Frame} {meth : Method} {c : Code} {E : g_E} {D : g_D} (C : gCL p R s m args meth c cL_law 7 R_law "law" (some .boolean) 8192 100000 E D) (hlT : l.stackTraces = false) {k23 : (Option Nat) → (Option Nat) → (Option Nat) → (Option Nat) → Int32 → g_G → Option (Int32 × g_G)} (hk23 : ∀ (v0 : Option Nat) (v1 : Option Nat) (v2 : Option Nat) (v3 : Option Nat) (v4 : Int32) (G : g_G) (q : Int32 × g_G), k23 v0 v1 v2 v3 v4 G = some q → q.1 = 1 → ∀ (H : Heap) (locs : List Loc) (cells slots : Nat) (ls : Array Slot), gSt E D G H locs → gls ls 7 [(0, .inr (.inr v0)), (1, .inr (.inr v1)), (2, .inr (.inr v2)), (3, .inr (.inr v3)), (4, .inl v4)] → W p l e R s m args below meth c H locs cells slots (lw_Z below args s) (F0 m 23 ls [])) : ∀ (v0 : Option Nat) (v1 : Option Nat) (v2 : Option Nat) (v3 : Option Nat) (v4 : Int32) (G : g_G) (q : Int32 × g_G), fL_law_b258 E k23 v0 v1 v2 v3 v4 G = some q → q.1 = 1 → ∀ (H : Heap) (locs : List Loc) (cells slots : Nat) (ls : Array Slot), gSt E D G H locs → gls ls 7 [(0, .inr (.inr v0)), (1, .inr (.inr v1)), (2, .inr (.inr v2)), (3, .inr (.inr v3)), (4, .inl v4)] → W p l e R s m args below meth c H locs cells slots (lw_Z below args s) (F0 m 258 ls []) := by
  obtain ⟨hx, hb, hml, hown, hts, hKn, hRc, hRs, hc1, hc2, hRf, hRl, hr, hlk, hnm⟩ := id C
  intro v0 v1 v2 v3 v4 G q h hq1 H locs cells slots ls hS hl
  unfold fL_law_b258 at h
  refine lv_goto (tgt := 1090) hx hb dL_law_258 (by decide) ?_
  exact sL_law_b1090 C hlT hk23 _ _ _ _ _ _ _ h hq1 _ _ _ _ _ hS (gls_sub hl [0, 1, 2, 3, 4] rfl)
theorem sL_law_b23 {p : Program} {l : Launch} {e : Env} {R : Room} {s : State} {m : MethodId} {args : Array Value} {below : List Frame} {meth : Method} {c : Code} {E : g_E} {D : g_D} (C : gCL p R s m args meth c cL_law 7 R_law "law" (some .boolean) 8192 100000 E D) (hlT : l.stackTraces = false) : ∀ (n : Nat) (v0 : Option Nat) (v1 : Option Nat) (v2 : Option Nat) (v3 : Option Nat) (v4 : Int32) (G : g_G) (q : Int32 × g_G), fL_law_b23 E n v0 v1 v2 v3 v4 G = some q → q.1 = 1 → ∀ (H : Heap) (locs : List Loc) (cells slots : Nat) (ls : Array Slot), gSt E D G H locs → gls ls 7 [(0, .inr (.inr v0)), (1, .inr (.inr v1)), (2, .inr (.inr v2)), (3, .inr (.inr v3)), (4, .inl v4)] → W p l e R s m args below meth c H locs cells slots (lw_Z below args s) (F0 m 23 ls []) := by
  obtain ⟨hx, hb, hml, hown, hts, hKn, hRc, hRs, hc1, hc2, hRf, hRl, hr, hlk, hnm⟩ := id C
  intro n
  induction n with
  | zero =>
    intro v0 v1 v2 v3 v4 G q h
    exact g_no h
  | succ n ih =>
    intro v0 v1 v2 v3 v4 G q h hq1 H locs cells slots ls hS hl
    rw [fL_law_b23] at h
    refine g_iload hx hb hl 4 rfl dL_law_23 ?_
    refine g_aload_n hx hb hl 0 rfl dL_law_25 ?_
    refine g_alen hx hb hKn hS h dL_law_26 (fun x26 h => ?_)
    refine lv_bipush (v := 6) hx hb dL_law_27 (by decide) ?_
    refine lv_isub hx hb dL_law_29 ?_
    refine lv_icmp_gt (tgt := 1096) hx hb dL_law_30 (by decide) (fun c_30 => ?_) (fun c_30 => ?_)
    · have h := g_ift c_30 h
      refine lv_iconst (v := 1) hx hb dL_law_1096 (by decide) ?_
      exact g_lret hx hb hr hlk hRc hRs hnm hS h hq1 dL_law_1097
    · have h := g_iff c_30 h
      refine g_aload_n hx hb hl 0 rfl dL_law_33 ?_
      refine g_iload hx hb hl 4 rfl dL_law_34 ?_
      refine g_ialoadG hx hb hKn hS h dL_law_36 (fun x36 h => ?_)
      refine lv_bipush (v := 31) hx hb dL_law_37 (by decide) ?_
      refine lv_iand hx hb dL_law_39 ?_
      by_cases w40_0 : (x36 &&& 31) = 0
      · refine lv_tableIn (tgt := 132) (off := 92) hx hb dL_law_40 (by rw [w40_0]; decide) (by rw [w40_0]; decide) (by rw [w40_0]; decide) (by decide) ?_
        have h := g_ift w40_0 h
        refine g_aload_n hx hb hl 1 rfl dL_law_132 ?_
        refine g_aload_n hx hb hl 0 rfl dL_law_133 ?_
        refine g_iload hx hb hl 4 rfl dL_law_134 ?_
        refine lv_iconst (v := 1) hx hb dL_law_136 (by decide) ?_
        refine lv_iadd hx hb dL_law_137 ?_
        refine g_ialoadG hx hb hKn hS h dL_law_138 (fun x138 h => ?_)
        refine g_aload_n hx hb hl 0 rfl dL_law_139 ?_
        refine g_iload hx hb hl 4 rfl dL_law_140 ?_
        refine lv_iconst (v := 2) hx hb dL_law_142 (by decide) ?_
        refine lv_iadd hx hb dL_law_143 ?_
        refine g_ialoadG hx hb hKn hS h dL_law_144 (fun x144 h => ?_)
        refine g_aload_n hx hb hl 0 rfl dL_law_145 ?_
        refine g_iload hx hb hl 4 rfl dL_law_146 ?_
        refine lv_iconst (v := 3) hx hb dL_law_148 (by decide) ?_
        refine lv_iadd hx hb dL_law_149 ?_
        refine g_ialoadG hx hb hKn hS h dL_law_150 (fun x150 h => ?_)
        refine g_aload_n hx hb hl 0 rfl dL_law_151 ?_
        refine g_iload hx hb hl 4 rfl dL_law_152 ?_
        refine lv_iconst (v := 4) hx hb dL_law_154 (by decide) ?_
        refine lv_iadd hx hb dL_law_155 ?_
        refine g_ialoadG hx hb hKn hS h dL_law_156 (fun x156 h => ?_)
        refine g_aload_n hx hb hl 0 rfl dL_law_157 ?_
        refine g_iload hx hb hl 4 rfl dL_law_158 ?_
        refine lv_iconst (v := 5) hx hb dL_law_160 (by decide) ?_
        refine lv_iadd hx hb dL_law_161 ?_
        refine g_ialoadG hx hb hKn hS h dL_law_162 (fun x162 h => ?_)
        obtain ⟨b163, hb163, h⟩ := g_bnd h
        obtain ⟨hr163, hk163⟩ := g_chk hb163
        obtain ⟨z163, h163, h⟩ := g_bnd h
        refine g_callV (n := 5) (b := b163) (av := [.inl x138, .inl x144, .inl x150, .inl x156, .inl x162]) (rs := []) hx hb hml hown hts hKn hRc hRs hS hl (sX1_feed l E D h163) (lw_V q697 q698 q699 q113 q700) ⟨rfl, by decide, by decide, by decide +kernel⟩ ⟨by rw [hRf]; omega, by rw [hRl]; omega⟩ (g_recv hKn hS hk163 (by decide) (by decide)) rfl (by rw [hr163]; rfl) (Nat.le_of_ble_eq_true rfl) dL_law_163 (fun H locs cells slots hS => ?_)
        refine g_aload_n hx hb hl 2 rfl dL_law_166 ?_
        refine g_aload_n hx hb hl 0 rfl dL_law_167 ?_
        refine g_iload hx hb hl 4 rfl dL_law_168 ?_
        refine lv_iconst (v := 1) hx hb dL_law_170 (by decide) ?_
        refine lv_iadd hx hb dL_law_171 ?_
        refine g_ialoadG hx hb hKn hS h dL_law_172 (fun x172 h => ?_)
        refine g_aload_n hx hb hl 0 rfl dL_law_173 ?_
        refine g_iload hx hb hl 4 rfl dL_law_174 ?_
        refine lv_iconst (v := 2) hx hb dL_law_176 (by decide) ?_
        refine lv_iadd hx hb dL_law_177 ?_
        refine g_ialoadG hx hb hKn hS h dL_law_178 (fun x178 h => ?_)
        refine g_aload_n hx hb hl 0 rfl dL_law_179 ?_
        refine g_iload hx hb hl 4 rfl dL_law_180 ?_
        refine lv_iconst (v := 3) hx hb dL_law_182 (by decide) ?_
        refine lv_iadd hx hb dL_law_183 ?_
        refine g_ialoadG hx hb hKn hS h dL_law_184 (fun x184 h => ?_)
        refine g_aload_n hx hb hl 0 rfl dL_law_185 ?_
        refine g_iload hx hb hl 4 rfl dL_law_186 ?_
        refine lv_iconst (v := 4) hx hb dL_law_188 (by decide) ?_
        refine lv_iadd hx hb dL_law_189 ?_
        refine g_ialoadG hx hb hKn hS h dL_law_190 (fun x190 h => ?_)
        refine g_aload_n hx hb hl 0 rfl dL_law_191 ?_
        refine g_iload hx hb hl 4 rfl dL_law_192 ?_
        refine lv_iconst (v := 5) hx hb dL_law_194 (by decide) ?_
        refine lv_iadd hx hb dL_law_195 ?_
        refine g_ialoadG hx hb hKn hS h dL_law_196 (fun x196 h => ?_)
        obtain ⟨b197, hb197, h⟩ := g_bnd h
        obtain ⟨hr197, hk197⟩ := g_chk hb197
        obtain ⟨z197, h197, h⟩ := g_bnd h
        refine g_callV (n := 5) (b := b197) (av := [.inl x172, .inl x178, .inl x184, .inl x190, .inl x196]) (rs := [.inl z163.1]) hx hb hml hown hts hKn hRc hRs hS hl (sX4_feed l E D h197) (lw_V q2080 q2081 q2082 q135 q2083) ⟨rfl, by decide, by decide, by decide +kernel⟩ ⟨by rw [hRf]; omega, by rw [hRl]; omega⟩ (g_recv hKn hS hk197 (by decide) (by decide)) rfl (by rw [hr197]; rfl) (Nat.le_of_ble_eq_true rfl) dL_law_197 (fun H locs cells slots hS => ?_)
        refine lv_icmp_eq (tgt := 1090) hx hb dL_law_200 (by decide) (fun c_200 => ?_) (fun c_200 => ?_)
        · have h := g_ift c_200 h
          exact sL_law_b1090 C hlT ih _ _ _ _ _ _ _ h hq1 _ _ _ _ _ hS (gls_sub hl [0, 1, 2, 3, 4] rfl)
        · have h := g_iff c_200 h
          refine lv_iconst (v := 0) hx hb dL_law_203 (by decide) ?_
          exact g_lret hx hb hr hlk hRc hRs hnm hS h hq1 dL_law_204
      have h := g_iff w40_0 h
      by_cases w40_1 : (x36 &&& 31) = 1
      · refine lv_tableIn (tgt := 205) (off := 165) hx hb dL_law_40 (by rw [w40_1]; decide) (by rw [w40_1]; decide) (by rw [w40_1]; decide) (by decide) ?_
        have h := g_ift w40_1 h
        refine g_aload_n hx hb hl 1 rfl dL_law_205 ?_
        refine g_aload_n hx hb hl 0 rfl dL_law_206 ?_
        refine g_iload hx hb hl 4 rfl dL_law_207 ?_
        refine lv_iconst (v := 1) hx hb dL_law_209 (by decide) ?_
        refine lv_iadd hx hb dL_law_210 ?_
        refine g_ialoadG hx hb hKn hS h dL_law_211 (fun x211 h => ?_)
        refine g_aload_n hx hb hl 3 rfl dL_law_212 ?_
        obtain ⟨o213, h213, ha213, hx213⟩ := g_catE h
        refine g_callSh (n := 3) (av := [.inr (.inr v1), .inl x211, .inr (.inr v3)]) (rs := []) hx hb hml hown hts hKn hRc hRs hS hl (sX0_text l E D hlT h213) (lw_SW q1084 q1085 q112 q1086) ⟨by decide, by decide, by decide +kernel⟩ ⟨by rw [hRf]; omega, by rw [hRl]; omega⟩ rfl rfl (Nat.le_of_ble_eq_true rfl) dL_law_213 (fun z213 e213 H locs cells slots hS => ?_) (fun k213 a213 G213 e213 n1 n2 nk nB H locs cells slots hS => ?_)
        · have h := ha213 _ e213
          refine g_istore (l1 := [(5, .inl z213.1), (0, .inr (.inr v0)), (1, .inr (.inr v1)), (2, .inr (.inr v2)), (3, .inr (.inr v3)), (4, .inl v4)]) hx hb hl (by decide) rfl dL_law_216 (fun ls hl => ?_)
          refine g_aload_n hx hb hl 3 rfl dL_law_218 ?_
          refine g_aload_n hx hb hl 1 rfl dL_law_219 ?_
          refine g_iload hx hb hl 5 rfl dL_law_220 ?_
          refine lv_iconst (v := 1) hx hb dL_law_222 (by decide) ?_
          refine lv_iadd hx hb dL_law_223 ?_
          refine g_ialoadG hx hb hKn hS h dL_law_224 (fun x224 h => ?_)
          obtain ⟨b225, hb225, h⟩ := g_bnd h
          obtain ⟨hr225, hk225⟩ := g_chk hb225
          obtain ⟨z225, h225, h⟩ := g_bnd h
          refine g_callV (n := 1) (b := b225) (av := [.inl x224]) (rs := []) hx hb hml hown hts hKn hRc hRs hS hl (sX4_text l E D h225) (lw_V q2084 q2085 q2086 q135 q2087) ⟨rfl, by decide, by decide, by decide +kernel⟩ ⟨by rw [hRf]; omega, by rw [hRl]; omega⟩ (g_recv hKn hS hk225 (by decide) (by decide)) rfl (by rw [hr225]; rfl) (Nat.le_of_ble_eq_true rfl) dL_law_225 (fun H locs cells slots hS => ?_)
          refine g_istore (l1 := [(6, .inl z225.1), (5, .inl z213.1), (0, .inr (.inr v0)), (1, .inr (.inr v1)), (2, .inr (.inr v2)), (3, .inr (.inr v3)), (4, .inl v4)]) hx hb hl (by decide) rfl dL_law_228 (fun ls hl => ?_)
          refine g_aload_n hx hb hl 4 rfl dL_law_230 ?_
          obtain ⟨b231, hb231, h⟩ := g_bnd h
          obtain ⟨hr231, hk231⟩ := g_chk hb231
          obtain ⟨z231, h231, h⟩ := g_bnd h
          refine g_callV (n := 0) (b := b231) (av := []) (rs := []) hx hb hml hown hts hKn hRc hRs hS hl (sX4_thrown l E D h231) (lw_V q2076 q2077 q2078 q135 q2079) ⟨rfl, by decide, by decide, by decide +kernel⟩ ⟨by rw [hRf]; omega, by rw [hRl]; omega⟩ (g_recv hKn hS hk231 (by decide) (by decide)) rfl (by rw [hr231]; rfl) (Nat.le_of_ble_eq_true rfl) dL_law_231 (fun H locs cells slots hS => ?_)
          refine g_iload hx hb hl 1 rfl dL_law_234 ?_
          refine lv_icmp_eq (tgt := 241) hx hb dL_law_236 (by decide) (fun c_236 => ?_) (fun c_236 => ?_)
          · have h := g_ift c_236 h
            refine g_iload hx hb hl 1 rfl dL_law_241 ?_
            refine lv_if_ne (tgt := 258) hx hb dL_law_243 (by decide) (fun c_243 => ?_) (fun c_243 => ?_)
            · have h := g_ift c_243 h
              exact sL_law_b258 C hlT ih _ _ _ _ _ _ _ h hq1 _ _ _ _ _ hS (gls_sub hl [2, 3, 4, 5, 6] rfl)
            · have h := g_iff (fun z => z c_243) h
              refine g_aload_n hx hb hl 5 rfl dL_law_246 ?_
              refine lv_iconst (v := 0) hx hb dL_law_247 (by decide) ?_
              refine g_laloadG hx hb hKn hS h dL_law_248 (fun x248 h => ?_)
              refine g_iload hx hb hl 0 rfl dL_law_249 ?_
              refine lv_i2l (v := (Int32.toInt64 z225.1)) hx hb dL_law_251 rfl ?_
              refine W.lcmp hx hb dL_law_252 ?_
              refine lv_if_eq (tgt := 258) hx hb dL_law_253 (by decide) (fun c_253 => ?_) (fun c_253 => ?_)
              · have h := g_ift c_253 h
                exact sL_law_b258 C hlT ih _ _ _ _ _ _ _ h hq1 _ _ _ _ _ hS (gls_sub hl [2, 3, 4, 5, 6] rfl)
              · have h := g_iff c_253 h
                refine lv_iconst (v := 0) hx hb dL_law_256 (by decide) ?_
                exact g_lret hx hb hr hlk hRc hRs hnm hS h hq1 dL_law_257
          · have h := g_iff c_236 h
            refine lv_iconst (v := 0) hx hb dL_law_239 (by decide) ?_
            exact g_lret hx hb hr hlk hRc hRs hnm hS h hq1 dL_law_240
        · have h := hx213 _ e213
          exact g_no h
      have h := g_iff w40_1 h
      by_cases w40_2 : (x36 &&& 31) = 2
      · refine lv_tableIn (tgt := 261) (off := 221) hx hb dL_law_40 (by rw [w40_2]; decide) (by rw [w40_2]; decide) (by rw [w40_2]; decide) (by decide) ?_
        have h := g_ift w40_2 h
        refine g_aload_n hx hb hl 1 rfl dL_law_261 ?_
        obtain ⟨b262, hb262, h⟩ := g_bnd h
        obtain ⟨hr262, hk262⟩ := g_chk hb262
        obtain ⟨z262, h262, h⟩ := g_bnd h
        refine g_callV (n := 0) (b := b262) (av := []) (rs := []) hx hb hml hown hts hKn hRc hRs hS hl (sX1_fault l E D h262) (lw_V q705 q706 q707 q113 q708) ⟨rfl, by decide, by decide, by decide +kernel⟩ ⟨by rw [hRf]; omega, by rw [hRl]; omega⟩ (g_recv hKn hS hk262 (by decide) (by decide)) rfl (by rw [hr262]; rfl) (Nat.le_of_ble_eq_true rfl) dL_law_262 (fun H locs cells slots hS => ?_)
        refine g_aload_n hx hb hl 2 rfl dL_law_265 ?_
        obtain ⟨b266, hb266, h⟩ := g_bnd h
        obtain ⟨hr266, hk266⟩ := g_chk hb266
        obtain ⟨z266, h266, h⟩ := g_bnd h
        refine g_callV (n := 0) (b := b266) (av := []) (rs := [.inl z262.1]) hx hb hml hown hts hKn hRc hRs hS hl (sX4_fault l E D h266) (lw_V q2189 q2190 q2191 q135 q2192) ⟨rfl, by decide, by decide, by decide +kernel⟩ ⟨by rw [hRf]; omega, by rw [hRl]; omega⟩ (g_recv hKn hS hk266 (by decide) (by decide)) rfl (by rw [hr266]; rfl) (Nat.le_of_ble_eq_true rfl) dL_law_266 (fun H locs cells slots hS => ?_)
        refine lv_icmp_eq (tgt := 1090) hx hb dL_law_269 (by decide) (fun c_269 => ?_) (fun c_269 => ?_)
        · have h := g_ift c_269 h
          exact sL_law_b1090 C hlT ih _ _ _ _ _ _ _ h hq1 _ _ _ _ _ hS (gls_sub hl [0, 1, 2, 3, 4] rfl)
        · have h := g_iff c_269 h
          refine lv_iconst (v := 0) hx hb dL_law_272 (by decide) ?_
          exact g_lret hx hb hr hlk hRc hRs hnm hS h hq1 dL_law_273
      have h := g_iff w40_2 h
      by_cases w40_3 : (x36 &&& 31) = 3
      · refine lv_tableIn (tgt := 274) (off := 234) hx hb dL_law_40 (by rw [w40_3]; decide) (by rw [w40_3]; decide) (by rw [w40_3]; decide) (by decide) ?_
        have h := g_ift w40_3 h
        refine g_aload_n hx hb hl 1 rfl dL_law_274 ?_
        refine g_aload_n hx hb hl 0 rfl dL_law_275 ?_
        refine g_iload hx hb hl 4 rfl dL_law_276 ?_
        refine lv_iconst (v := 1) hx hb dL_law_278 (by decide) ?_
        refine lv_iadd hx hb dL_law_279 ?_
        refine g_ialoadG hx hb hKn hS h dL_law_280 (fun x280 h => ?_)
        refine g_aload_n hx hb hl 0 rfl dL_law_281 ?_
        refine g_iload hx hb hl 4 rfl dL_law_282 ?_
        refine lv_iconst (v := 2) hx hb dL_law_284 (by decide) ?_
        refine lv_iadd hx hb dL_law_285 ?_
        refine g_ialoadG hx hb hKn hS h dL_law_286 (fun x286 h => ?_)
        refine g_aload_n hx hb hl 0 rfl dL_law_287 ?_
        refine g_iload hx hb hl 4 rfl dL_law_288 ?_
        refine lv_iconst (v := 3) hx hb dL_law_290 (by decide) ?_
        refine lv_iadd hx hb dL_law_291 ?_
        refine g_ialoadG hx hb hKn hS h dL_law_292 (fun x292 h => ?_)
        refine g_aload_n hx hb hl 0 rfl dL_law_293 ?_
        refine g_iload hx hb hl 4 rfl dL_law_294 ?_
        refine lv_iconst (v := 4) hx hb dL_law_296 (by decide) ?_
        refine lv_iadd hx hb dL_law_297 ?_
        refine g_ialoadG hx hb hKn hS h dL_law_298 (fun x298 h => ?_)
        obtain ⟨b299, hb299, h⟩ := g_bnd h
        obtain ⟨hr299, hk299⟩ := g_chk hb299
        obtain ⟨z299, h299, h⟩ := g_bnd h
        refine g_callV (n := 4) (b := b299) (av := [.inl x280, .inl x286, .inl x292, .inl x298]) (rs := []) hx hb hml hown hts hKn hRc hRs hS hl (sX1_world l E D h299) (lw_V q709 q710 q711 q113 q712) ⟨rfl, by decide, by decide, by decide +kernel⟩ ⟨by rw [hRf]; omega, by rw [hRl]; omega⟩ (g_recv hKn hS hk299 (by decide) (by decide)) rfl (by rw [hr299]; rfl) (Nat.le_of_ble_eq_true rfl) dL_law_299 (fun H locs cells slots hS => ?_)
        refine g_aload_n hx hb hl 2 rfl dL_law_302 ?_
        refine g_aload_n hx hb hl 0 rfl dL_law_303 ?_
        refine g_iload hx hb hl 4 rfl dL_law_304 ?_
        refine lv_iconst (v := 1) hx hb dL_law_306 (by decide) ?_
        refine lv_iadd hx hb dL_law_307 ?_
        refine g_ialoadG hx hb hKn hS h dL_law_308 (fun x308 h => ?_)
        refine g_aload_n hx hb hl 0 rfl dL_law_309 ?_
        refine g_iload hx hb hl 4 rfl dL_law_310 ?_
        refine lv_iconst (v := 2) hx hb dL_law_312 (by decide) ?_
        refine lv_iadd hx hb dL_law_313 ?_
        refine g_ialoadG hx hb hKn hS h dL_law_314 (fun x314 h => ?_)
        refine g_aload_n hx hb hl 0 rfl dL_law_315 ?_
        refine g_iload hx hb hl 4 rfl dL_law_316 ?_
        refine lv_iconst (v := 3) hx hb dL_law_318 (by decide) ?_
        refine lv_iadd hx hb dL_law_319 ?_
        refine g_ialoadG hx hb hKn hS h dL_law_320 (fun x320 h => ?_)
        refine g_aload_n hx hb hl 0 rfl dL_law_321 ?_
        refine g_iload hx hb hl 4 rfl dL_law_322 ?_
        refine lv_iconst (v := 4) hx hb dL_law_324 (by decide) ?_
        refine lv_iadd hx hb dL_law_325 ?_
        refine g_ialoadG hx hb hKn hS h dL_law_326 (fun x326 h => ?_)
        obtain ⟨b327, hb327, h⟩ := g_bnd h
        obtain ⟨hr327, hk327⟩ := g_chk hb327
        obtain ⟨z327, h327, h⟩ := g_bnd h
        refine g_callV (n := 4) (b := b327) (av := [.inl x308, .inl x314, .inl x320, .inl x326]) (rs := [.inl z299.1]) hx hb hml hown hts hKn hRc hRs hS hl (sX4_world l E D h327) (lw_V q2193 q2194 q2195 q135 q2196) ⟨rfl, by decide, by decide, by decide +kernel⟩ ⟨by rw [hRf]; omega, by rw [hRl]; omega⟩ (g_recv hKn hS hk327 (by decide) (by decide)) rfl (by rw [hr327]; rfl) (Nat.le_of_ble_eq_true rfl) dL_law_327 (fun H locs cells slots hS => ?_)
        refine lv_icmp_eq (tgt := 1090) hx hb dL_law_330 (by decide) (fun c_330 => ?_) (fun c_330 => ?_)
        · have h := g_ift c_330 h
          exact sL_law_b1090 C hlT ih _ _ _ _ _ _ _ h hq1 _ _ _ _ _ hS (gls_sub hl [0, 1, 2, 3, 4] rfl)
        · have h := g_iff c_330 h
          refine lv_iconst (v := 0) hx hb dL_law_333 (by decide) ?_
          exact g_lret hx hb hr hlk hRc hRs hnm hS h hq1 dL_law_334
      have h := g_iff w40_3 h
      by_cases w40_4 : (x36 &&& 31) = 4
      · refine lv_tableIn (tgt := 335) (off := 295) hx hb dL_law_40 (by rw [w40_4]; decide) (by rw [w40_4]; decide) (by rw [w40_4]; decide) (by decide) ?_
        have h := g_ift w40_4 h
        refine g_aload_n hx hb hl 1 rfl dL_law_335 ?_
        refine g_aload_n hx hb hl 0 rfl dL_law_336 ?_
        refine g_iload hx hb hl 4 rfl dL_law_337 ?_
        refine lv_iconst (v := 1) hx hb dL_law_339 (by decide) ?_
        refine lv_iadd hx hb dL_law_340 ?_
        refine g_ialoadG hx hb hKn hS h dL_law_341 (fun x341 h => ?_)
        refine g_aload_n hx hb hl 3 rfl dL_law_342 ?_
        obtain ⟨o343, h343, ha343, hx343⟩ := g_catE h
        refine g_callSh (n := 3) (av := [.inr (.inr v1), .inl x341, .inr (.inr v3)]) (rs := []) hx hb hml hown hts hKn hRc hRs hS hl (sX0_count l E D hlT h343) (lw_SW q1713 q1714 q112 q1715) ⟨by decide, by decide, by decide +kernel⟩ ⟨by rw [hRf]; omega, by rw [hRl]; omega⟩ rfl rfl (Nat.le_of_ble_eq_true rfl) dL_law_343 (fun z343 e343 H locs cells slots hS => ?_) (fun k343 a343 G343 e343 n1 n2 nk nB H locs cells slots hS => ?_)
        · have h := ha343 _ e343
          refine g_istore (l1 := [(5, .inl z343.1), (0, .inr (.inr v0)), (1, .inr (.inr v1)), (2, .inr (.inr v2)), (3, .inr (.inr v3)), (4, .inl v4)]) hx hb hl (by decide) rfl dL_law_346 (fun ls hl => ?_)
          refine g_aload_n hx hb hl 3 rfl dL_law_348 ?_
          refine g_aload_n hx hb hl 1 rfl dL_law_349 ?_
          refine g_iload hx hb hl 5 rfl dL_law_350 ?_
          refine lv_iconst (v := 1) hx hb dL_law_352 (by decide) ?_
          refine lv_iadd hx hb dL_law_353 ?_
          refine g_ialoadG hx hb hKn hS h dL_law_354 (fun x354 h => ?_)
          obtain ⟨b355, hb355, h⟩ := g_bnd h
          obtain ⟨hr355, hk355⟩ := g_chk hb355
          obtain ⟨z355, h355, h⟩ := g_bnd h
          refine g_callV (n := 1) (b := b355) (av := [.inl x354]) (rs := []) hx hb hml hown hts hKn hRc hRs hS hl (sX4_count l E D h355) (lw_V q2197 q2198 q2199 q135 q2200) ⟨rfl, by decide, by decide, by decide +kernel⟩ ⟨by rw [hRf]; omega, by rw [hRl]; omega⟩ (g_recv hKn hS hk355 (by decide) (by decide)) rfl (by rw [hr355]; rfl) (Nat.le_of_ble_eq_true rfl) dL_law_355 (fun H locs cells slots hS => ?_)
          refine g_istore (l1 := [(6, .inl z355.1), (5, .inl z343.1), (0, .inr (.inr v0)), (1, .inr (.inr v1)), (2, .inr (.inr v2)), (3, .inr (.inr v3)), (4, .inl v4)]) hx hb hl (by decide) rfl dL_law_358 (fun ls hl => ?_)
          refine g_aload_n hx hb hl 4 rfl dL_law_360 ?_
          obtain ⟨b361, hb361, h⟩ := g_bnd h
          obtain ⟨hr361, hk361⟩ := g_chk hb361
          obtain ⟨z361, h361, h⟩ := g_bnd h
          refine g_callV (n := 0) (b := b361) (av := []) (rs := []) hx hb hml hown hts hKn hRc hRs hS hl (sX4_thrown l E D h361) (lw_V q2076 q2077 q2078 q135 q2079) ⟨rfl, by decide, by decide, by decide +kernel⟩ ⟨by rw [hRf]; omega, by rw [hRl]; omega⟩ (g_recv hKn hS hk361 (by decide) (by decide)) rfl (by rw [hr361]; rfl) (Nat.le_of_ble_eq_true rfl) dL_law_361 (fun H locs cells slots hS => ?_)
          refine g_iload hx hb hl 1 rfl dL_law_364 ?_
          refine lv_icmp_eq (tgt := 371) hx hb dL_law_366 (by decide) (fun c_366 => ?_) (fun c_366 => ?_)
          · have h := g_ift c_366 h
            refine g_iload hx hb hl 1 rfl dL_law_371 ?_
            refine lv_if_ne (tgt := 388) hx hb dL_law_373 (by decide) (fun c_373 => ?_) (fun c_373 => ?_)
            · have h := g_ift c_373 h
              exact sL_law_b388 C hlT ih _ _ _ _ _ _ _ h hq1 _ _ _ _ _ hS (gls_sub hl [2, 3, 4, 5, 6] rfl)
            · have h := g_iff (fun z => z c_373) h
              refine g_aload_n hx hb hl 5 rfl dL_law_376 ?_
              refine lv_iconst (v := 0) hx hb dL_law_377 (by decide) ?_
              refine g_laloadG hx hb hKn hS h dL_law_378 (fun x378 h => ?_)
              refine g_iload hx hb hl 0 rfl dL_law_379 ?_
              refine lv_i2l (v := (Int32.toInt64 z355.1)) hx hb dL_law_381 rfl ?_
              refine W.lcmp hx hb dL_law_382 ?_
              refine lv_if_eq (tgt := 388) hx hb dL_law_383 (by decide) (fun c_383 => ?_) (fun c_383 => ?_)
              · have h := g_ift c_383 h
                exact sL_law_b388 C hlT ih _ _ _ _ _ _ _ h hq1 _ _ _ _ _ hS (gls_sub hl [2, 3, 4, 5, 6] rfl)
              · have h := g_iff c_383 h
                refine lv_iconst (v := 0) hx hb dL_law_386 (by decide) ?_
                exact g_lret hx hb hr hlk hRc hRs hnm hS h hq1 dL_law_387
          · have h := g_iff c_366 h
            refine lv_iconst (v := 0) hx hb dL_law_369 (by decide) ?_
            exact g_lret hx hb hr hlk hRc hRs hnm hS h hq1 dL_law_370
        · have h := hx343 _ e343
          exact g_no h
      have h := g_iff w40_4 h
      by_cases w40_5 : (x36 &&& 31) = 5
      · refine lv_tableIn (tgt := 391) (off := 351) hx hb dL_law_40 (by rw [w40_5]; decide) (by rw [w40_5]; decide) (by rw [w40_5]; decide) (by decide) ?_
        have h := g_ift w40_5 h
        refine g_aload_n hx hb hl 1 rfl dL_law_391 ?_
        refine g_aload_n hx hb hl 0 rfl dL_law_392 ?_
        refine g_iload hx hb hl 4 rfl dL_law_393 ?_
        refine lv_iconst (v := 1) hx hb dL_law_395 (by decide) ?_
        refine lv_iadd hx hb dL_law_396 ?_
        refine g_ialoadG hx hb hKn hS h dL_law_397 (fun x397 h => ?_)
        refine g_aload_n hx hb hl 3 rfl dL_law_398 ?_
        obtain ⟨o399, h399, ha399, hx399⟩ := g_catE h
        refine g_callSh (n := 3) (av := [.inr (.inr v1), .inl x397, .inr (.inr v3)]) (rs := []) hx hb hml hown hts hKn hRc hRs hS hl (sX0_step l E D hlT h399) (lw_SW q1739 q1740 q112 q1741) ⟨by decide, by decide, by decide +kernel⟩ ⟨by rw [hRf]; omega, by rw [hRl]; omega⟩ rfl rfl (Nat.le_of_ble_eq_true rfl) dL_law_399 (fun z399 e399 H locs cells slots hS => ?_) (fun k399 a399 G399 e399 n1 n2 nk nB H locs cells slots hS => ?_)
        · have h := ha399 _ e399
          refine g_istore (l1 := [(5, .inl z399.1), (0, .inr (.inr v0)), (1, .inr (.inr v1)), (2, .inr (.inr v2)), (3, .inr (.inr v3)), (4, .inl v4)]) hx hb hl (by decide) rfl dL_law_402 (fun ls hl => ?_)
          refine g_aload_n hx hb hl 3 rfl dL_law_404 ?_
          refine g_aload_n hx hb hl 1 rfl dL_law_405 ?_
          refine g_iload hx hb hl 5 rfl dL_law_406 ?_
          refine lv_iconst (v := 1) hx hb dL_law_408 (by decide) ?_
          refine lv_iadd hx hb dL_law_409 ?_
          refine g_ialoadG hx hb hKn hS h dL_law_410 (fun x410 h => ?_)
          obtain ⟨b411, hb411, h⟩ := g_bnd h
          obtain ⟨hr411, hk411⟩ := g_chk hb411
          obtain ⟨z411, h411, h⟩ := g_bnd h
          refine g_callV (n := 1) (b := b411) (av := [.inl x410]) (rs := []) hx hb hml hown hts hKn hRc hRs hS hl (sX4_step l E D h411) (lw_V q2205 q2206 q2207 q135 q2208) ⟨rfl, by decide, by decide, by decide +kernel⟩ ⟨by rw [hRf]; omega, by rw [hRl]; omega⟩ (g_recv hKn hS hk411 (by decide) (by decide)) rfl (by rw [hr411]; rfl) (Nat.le_of_ble_eq_true rfl) dL_law_411 (fun H locs cells slots hS => ?_)
          refine g_istore (l1 := [(6, .inl z411.1), (5, .inl z399.1), (0, .inr (.inr v0)), (1, .inr (.inr v1)), (2, .inr (.inr v2)), (3, .inr (.inr v3)), (4, .inl v4)]) hx hb hl (by decide) rfl dL_law_414 (fun ls hl => ?_)
          refine g_aload_n hx hb hl 4 rfl dL_law_416 ?_
          obtain ⟨b417, hb417, h⟩ := g_bnd h
          obtain ⟨hr417, hk417⟩ := g_chk hb417
          obtain ⟨z417, h417, h⟩ := g_bnd h
          refine g_callV (n := 0) (b := b417) (av := []) (rs := []) hx hb hml hown hts hKn hRc hRs hS hl (sX4_thrown l E D h417) (lw_V q2076 q2077 q2078 q135 q2079) ⟨rfl, by decide, by decide, by decide +kernel⟩ ⟨by rw [hRf]; omega, by rw [hRl]; omega⟩ (g_recv hKn hS hk417 (by decide) (by decide)) rfl (by rw [hr417]; rfl) (Nat.le_of_ble_eq_true rfl) dL_law_417 (fun H locs cells slots hS => ?_)
          refine g_iload hx hb hl 1 rfl dL_law_420 ?_
          refine lv_icmp_eq (tgt := 427) hx hb dL_law_422 (by decide) (fun c_422 => ?_) (fun c_422 => ?_)
          · have h := g_ift c_422 h
            refine g_iload hx hb hl 1 rfl dL_law_427 ?_
            refine lv_if_ne (tgt := 444) hx hb dL_law_429 (by decide) (fun c_429 => ?_) (fun c_429 => ?_)
            · have h := g_ift c_429 h
              exact sL_law_b444 C hlT ih _ _ _ _ _ _ _ h hq1 _ _ _ _ _ hS (gls_sub hl [2, 3, 4, 5, 6] rfl)
            · have h := g_iff (fun z => z c_429) h
              refine g_aload_n hx hb hl 5 rfl dL_law_432 ?_
              refine lv_iconst (v := 0) hx hb dL_law_433 (by decide) ?_
              refine g_laloadG hx hb hKn hS h dL_law_434 (fun x434 h => ?_)
              refine g_iload hx hb hl 0 rfl dL_law_435 ?_
              refine lv_i2l (v := (Int32.toInt64 z411.1)) hx hb dL_law_437 rfl ?_
              refine W.lcmp hx hb dL_law_438 ?_
              refine lv_if_eq (tgt := 444) hx hb dL_law_439 (by decide) (fun c_439 => ?_) (fun c_439 => ?_)
              · have h := g_ift c_439 h
                exact sL_law_b444 C hlT ih _ _ _ _ _ _ _ h hq1 _ _ _ _ _ hS (gls_sub hl [2, 3, 4, 5, 6] rfl)
              · have h := g_iff c_439 h
                refine lv_iconst (v := 0) hx hb dL_law_442 (by decide) ?_
                exact g_lret hx hb hr hlk hRc hRs hnm hS h hq1 dL_law_443
          · have h := g_iff c_422 h
            refine lv_iconst (v := 0) hx hb dL_law_425 (by decide) ?_
            exact g_lret hx hb hr hlk hRc hRs hnm hS h hq1 dL_law_426
        · have h := hx399 _ e399
          exact g_no h
      have h := g_iff w40_5 h
      by_cases w40_6 : (x36 &&& 31) = 6
      · refine lv_tableIn (tgt := 447) (off := 407) hx hb dL_law_40 (by rw [w40_6]; decide) (by rw [w40_6]; decide) (by rw [w40_6]; decide) (by decide) ?_
        have h := g_ift w40_6 h
        refine g_aload_n hx hb hl 1 rfl dL_law_447 ?_
        obtain ⟨b448, hb448, h⟩ := g_bnd h
        obtain ⟨hr448, hk448⟩ := g_chk hb448
        obtain ⟨z448, h448, h⟩ := g_bnd h
        refine g_callV (n := 0) (b := b448) (av := []) (rs := []) hx hb hml hown hts hKn hRc hRs hS hl (sX1_reached l E D h448) (lw_V q716 q717 q718 q113 q719) ⟨rfl, by decide, by decide, by decide +kernel⟩ ⟨by rw [hRf]; omega, by rw [hRl]; omega⟩ (g_recv hKn hS hk448 (by decide) (by decide)) rfl (by rw [hr448]; rfl) (Nat.le_of_ble_eq_true rfl) dL_law_448 (fun H locs cells slots hS => ?_)
        refine g_aload_n hx hb hl 2 rfl dL_law_451 ?_
        obtain ⟨b452, hb452, h⟩ := g_bnd h
        obtain ⟨hr452, hk452⟩ := g_chk hb452
        obtain ⟨z452, h452, h⟩ := g_bnd h
        refine g_callV (n := 0) (b := b452) (av := []) (rs := [.inl z448.1]) hx hb hml hown hts hKn hRc hRs hS hl (sX4_reached l E D h452) (lw_V q2213 q2214 q2215 q135 q2216) ⟨rfl, by decide, by decide, by decide +kernel⟩ ⟨by rw [hRf]; omega, by rw [hRl]; omega⟩ (g_recv hKn hS hk452 (by decide) (by decide)) rfl (by rw [hr452]; rfl) (Nat.le_of_ble_eq_true rfl) dL_law_452 (fun H locs cells slots hS => ?_)
        refine lv_icmp_eq (tgt := 1090) hx hb dL_law_455 (by decide) (fun c_455 => ?_) (fun c_455 => ?_)
        · have h := g_ift c_455 h
          exact sL_law_b1090 C hlT ih _ _ _ _ _ _ _ h hq1 _ _ _ _ _ hS (gls_sub hl [0, 1, 2, 3, 4] rfl)
        · have h := g_iff c_455 h
          refine lv_iconst (v := 0) hx hb dL_law_458 (by decide) ?_
          exact g_lret hx hb hr hlk hRc hRs hnm hS h hq1 dL_law_459
      have h := g_iff w40_6 h
      by_cases w40_7 : (x36 &&& 31) = 7
      · refine lv_tableIn (tgt := 460) (off := 420) hx hb dL_law_40 (by rw [w40_7]; decide) (by rw [w40_7]; decide) (by rw [w40_7]; decide) (by decide) ?_
        have h := g_ift w40_7 h
        refine g_aload_n hx hb hl 1 rfl dL_law_460 ?_
        refine g_aload_n hx hb hl 0 rfl dL_law_461 ?_
        refine g_iload hx hb hl 4 rfl dL_law_462 ?_
        refine lv_iconst (v := 1) hx hb dL_law_464 (by decide) ?_
        refine lv_iadd hx hb dL_law_465 ?_
        refine g_ialoadG hx hb hKn hS h dL_law_466 (fun x466 h => ?_)
        refine g_aload_n hx hb hl 3 rfl dL_law_467 ?_
        obtain ⟨o468, h468, ha468, hx468⟩ := g_catE h
        refine g_callSh (n := 3) (av := [.inr (.inr v1), .inl x466, .inr (.inr v3)]) (rs := []) hx hb hml hown hts hKn hRc hRs hS hl (sX0_endings l E D hlT h468) (lw_SW q1750 q1751 q112 q1752) ⟨by decide, by decide, by decide +kernel⟩ ⟨by rw [hRf]; omega, by rw [hRl]; omega⟩ rfl rfl (Nat.le_of_ble_eq_true rfl) dL_law_468 (fun z468 e468 H locs cells slots hS => ?_) (fun k468 a468 G468 e468 n1 n2 nk nB H locs cells slots hS => ?_)
        · have h := ha468 _ e468
          refine g_istore (l1 := [(5, .inl z468.1), (0, .inr (.inr v0)), (1, .inr (.inr v1)), (2, .inr (.inr v2)), (3, .inr (.inr v3)), (4, .inl v4)]) hx hb hl (by decide) rfl dL_law_471 (fun ls hl => ?_)
          refine g_aload_n hx hb hl 3 rfl dL_law_473 ?_
          refine g_aload_n hx hb hl 1 rfl dL_law_474 ?_
          refine g_iload hx hb hl 5 rfl dL_law_475 ?_
          refine lv_iconst (v := 1) hx hb dL_law_477 (by decide) ?_
          refine lv_iadd hx hb dL_law_478 ?_
          refine g_ialoadG hx hb hKn hS h dL_law_479 (fun x479 h => ?_)
          obtain ⟨b480, hb480, h⟩ := g_bnd h
          obtain ⟨hr480, hk480⟩ := g_chk hb480
          obtain ⟨z480, h480, h⟩ := g_bnd h
          refine g_callV (n := 1) (b := b480) (av := [.inl x479]) (rs := []) hx hb hml hown hts hKn hRc hRs hS hl (sX4_endings l E D h480) (lw_V q2368 q2369 q2370 q135 q2371) ⟨rfl, by decide, by decide, by decide +kernel⟩ ⟨by rw [hRf]; omega, by rw [hRl]; omega⟩ (g_recv hKn hS hk480 (by decide) (by decide)) rfl (by rw [hr480]; rfl) (Nat.le_of_ble_eq_true rfl) dL_law_480 (fun H locs cells slots hS => ?_)
          refine g_istore (l1 := [(6, .inl z480.1), (5, .inl z468.1), (0, .inr (.inr v0)), (1, .inr (.inr v1)), (2, .inr (.inr v2)), (3, .inr (.inr v3)), (4, .inl v4)]) hx hb hl (by decide) rfl dL_law_483 (fun ls hl => ?_)
          refine g_aload_n hx hb hl 4 rfl dL_law_485 ?_
          obtain ⟨b486, hb486, h⟩ := g_bnd h
          obtain ⟨hr486, hk486⟩ := g_chk hb486
          obtain ⟨z486, h486, h⟩ := g_bnd h
          refine g_callV (n := 0) (b := b486) (av := []) (rs := []) hx hb hml hown hts hKn hRc hRs hS hl (sX4_thrown l E D h486) (lw_V q2076 q2077 q2078 q135 q2079) ⟨rfl, by decide, by decide, by decide +kernel⟩ ⟨by rw [hRf]; omega, by rw [hRl]; omega⟩ (g_recv hKn hS hk486 (by decide) (by decide)) rfl (by rw [hr486]; rfl) (Nat.le_of_ble_eq_true rfl) dL_law_486 (fun H locs cells slots hS => ?_)
          refine g_iload hx hb hl 1 rfl dL_law_489 ?_
          refine lv_icmp_eq (tgt := 496) hx hb dL_law_491 (by decide) (fun c_491 => ?_) (fun c_491 => ?_)
          · have h := g_ift c_491 h
            refine g_iload hx hb hl 1 rfl dL_law_496 ?_
            refine lv_if_ne (tgt := 513) hx hb dL_law_498 (by decide) (fun c_498 => ?_) (fun c_498 => ?_)
            · have h := g_ift c_498 h
              exact sL_law_b513 C hlT ih _ _ _ _ _ _ _ h hq1 _ _ _ _ _ hS (gls_sub hl [2, 3, 4, 5, 6] rfl)
            · have h := g_iff (fun z => z c_498) h
              refine g_aload_n hx hb hl 5 rfl dL_law_501 ?_
              refine lv_iconst (v := 0) hx hb dL_law_502 (by decide) ?_
              refine g_laloadG hx hb hKn hS h dL_law_503 (fun x503 h => ?_)
              refine g_iload hx hb hl 0 rfl dL_law_504 ?_
              refine lv_i2l (v := (Int32.toInt64 z480.1)) hx hb dL_law_506 rfl ?_
              refine W.lcmp hx hb dL_law_507 ?_
              refine lv_if_eq (tgt := 513) hx hb dL_law_508 (by decide) (fun c_508 => ?_) (fun c_508 => ?_)
              · have h := g_ift c_508 h
                exact sL_law_b513 C hlT ih _ _ _ _ _ _ _ h hq1 _ _ _ _ _ hS (gls_sub hl [2, 3, 4, 5, 6] rfl)
              · have h := g_iff c_508 h
                refine lv_iconst (v := 0) hx hb dL_law_511 (by decide) ?_
                exact g_lret hx hb hr hlk hRc hRs hnm hS h hq1 dL_law_512
          · have h := g_iff c_491 h
            refine lv_iconst (v := 0) hx hb dL_law_494 (by decide) ?_
            exact g_lret hx hb hr hlk hRc hRs hnm hS h hq1 dL_law_495
        · have h := hx468 _ e468
          exact g_no h
      have h := g_iff w40_7 h
      by_cases w40_8 : (x36 &&& 31) = 8
      · refine lv_tableIn (tgt := 516) (off := 476) hx hb dL_law_40 (by rw [w40_8]; decide) (by rw [w40_8]; decide) (by rw [w40_8]; decide) (by decide) ?_
        have h := g_ift w40_8 h
        refine g_aload_n hx hb hl 1 rfl dL_law_516 ?_
        refine g_aload_n hx hb hl 0 rfl dL_law_517 ?_
        refine g_iload hx hb hl 4 rfl dL_law_518 ?_
        refine lv_iconst (v := 1) hx hb dL_law_520 (by decide) ?_
        refine lv_iadd hx hb dL_law_521 ?_
        refine g_ialoadG hx hb hKn hS h dL_law_522 (fun x522 h => ?_)
        refine g_aload_n hx hb hl 0 rfl dL_law_523 ?_
        refine g_iload hx hb hl 4 rfl dL_law_524 ?_
        refine lv_iconst (v := 2) hx hb dL_law_526 (by decide) ?_
        refine lv_iadd hx hb dL_law_527 ?_
        refine g_ialoadG hx hb hKn hS h dL_law_528 (fun x528 h => ?_)
        refine g_aload_n hx hb hl 3 rfl dL_law_529 ?_
        obtain ⟨o530, h530, ha530, hx530⟩ := g_catE h
        refine g_callSh (n := 4) (av := [.inr (.inr v1), .inl x522, .inl x528, .inr (.inr v3)]) (rs := []) hx hb hml hown hts hKn hRc hRs hS hl (sX0_ending l E D hlT h530) (lw_SW q1757 q1758 q112 q1759) ⟨by decide, by decide, by decide +kernel⟩ ⟨by rw [hRf]; omega, by rw [hRl]; omega⟩ rfl rfl (Nat.le_of_ble_eq_true rfl) dL_law_530 (fun z530 e530 H locs cells slots hS => ?_) (fun k530 a530 G530 e530 n1 n2 nk nB H locs cells slots hS => ?_)
        · have h := ha530 _ e530
          refine g_istore (l1 := [(5, .inl z530.1), (0, .inr (.inr v0)), (1, .inr (.inr v1)), (2, .inr (.inr v2)), (3, .inr (.inr v3)), (4, .inl v4)]) hx hb hl (by decide) rfl dL_law_533 (fun ls hl => ?_)
          refine g_aload_n hx hb hl 3 rfl dL_law_535 ?_
          refine g_aload_n hx hb hl 1 rfl dL_law_536 ?_
          refine g_iload hx hb hl 5 rfl dL_law_537 ?_
          refine lv_iconst (v := 1) hx hb dL_law_539 (by decide) ?_
          refine lv_iadd hx hb dL_law_540 ?_
          refine g_ialoadG hx hb hKn hS h dL_law_541 (fun x541 h => ?_)
          refine g_aload_n hx hb hl 1 rfl dL_law_542 ?_
          refine g_iload hx hb hl 5 rfl dL_law_543 ?_
          refine lv_iconst (v := 2) hx hb dL_law_545 (by decide) ?_
          refine lv_iadd hx hb dL_law_546 ?_
          refine g_ialoadG hx hb hKn hS h dL_law_547 (fun x547 h => ?_)
          obtain ⟨b548, hb548, h⟩ := g_bnd h
          obtain ⟨hr548, hk548⟩ := g_chk hb548
          obtain ⟨z548, h548, h⟩ := g_bnd h
          refine g_callV (n := 2) (b := b548) (av := [.inl x541, .inl x547]) (rs := []) hx hb hml hown hts hKn hRc hRs hS hl (sX4_ending l E D h548) (lw_V q2372 q2373 q2374 q135 q2375) ⟨rfl, by decide, by decide, by decide +kernel⟩ ⟨by rw [hRf]; omega, by rw [hRl]; omega⟩ (g_recv hKn hS hk548 (by decide) (by decide)) rfl (by rw [hr548]; rfl) (Nat.le_of_ble_eq_true rfl) dL_law_548 (fun H locs cells slots hS => ?_)
          refine g_istore (l1 := [(6, .inl z548.1), (5, .inl z530.1), (0, .inr (.inr v0)), (1, .inr (.inr v1)), (2, .inr (.inr v2)), (3, .inr (.inr v3)), (4, .inl v4)]) hx hb hl (by decide) rfl dL_law_551 (fun ls hl => ?_)
          refine g_aload_n hx hb hl 4 rfl dL_law_553 ?_
          obtain ⟨b554, hb554, h⟩ := g_bnd h
          obtain ⟨hr554, hk554⟩ := g_chk hb554
          obtain ⟨z554, h554, h⟩ := g_bnd h
          refine g_callV (n := 0) (b := b554) (av := []) (rs := []) hx hb hml hown hts hKn hRc hRs hS hl (sX4_thrown l E D h554) (lw_V q2076 q2077 q2078 q135 q2079) ⟨rfl, by decide, by decide, by decide +kernel⟩ ⟨by rw [hRf]; omega, by rw [hRl]; omega⟩ (g_recv hKn hS hk554 (by decide) (by decide)) rfl (by rw [hr554]; rfl) (Nat.le_of_ble_eq_true rfl) dL_law_554 (fun H locs cells slots hS => ?_)
          refine g_iload hx hb hl 1 rfl dL_law_557 ?_
          refine lv_icmp_eq (tgt := 564) hx hb dL_law_559 (by decide) (fun c_559 => ?_) (fun c_559 => ?_)
          · have h := g_ift c_559 h
            refine g_iload hx hb hl 1 rfl dL_law_564 ?_
            refine lv_if_ne (tgt := 581) hx hb dL_law_566 (by decide) (fun c_566 => ?_) (fun c_566 => ?_)
            · have h := g_ift c_566 h
              exact sL_law_b581 C hlT ih _ _ _ _ _ _ _ h hq1 _ _ _ _ _ hS (gls_sub hl [2, 3, 4, 5, 6] rfl)
            · have h := g_iff (fun z => z c_566) h
              refine g_aload_n hx hb hl 5 rfl dL_law_569 ?_
              refine lv_iconst (v := 0) hx hb dL_law_570 (by decide) ?_
              refine g_laloadG hx hb hKn hS h dL_law_571 (fun x571 h => ?_)
              refine g_iload hx hb hl 0 rfl dL_law_572 ?_
              refine lv_i2l (v := (Int32.toInt64 z548.1)) hx hb dL_law_574 rfl ?_
              refine W.lcmp hx hb dL_law_575 ?_
              refine lv_if_eq (tgt := 581) hx hb dL_law_576 (by decide) (fun c_576 => ?_) (fun c_576 => ?_)
              · have h := g_ift c_576 h
                exact sL_law_b581 C hlT ih _ _ _ _ _ _ _ h hq1 _ _ _ _ _ hS (gls_sub hl [2, 3, 4, 5, 6] rfl)
              · have h := g_iff c_576 h
                refine lv_iconst (v := 0) hx hb dL_law_579 (by decide) ?_
                exact g_lret hx hb hr hlk hRc hRs hnm hS h hq1 dL_law_580
          · have h := g_iff c_559 h
            refine lv_iconst (v := 0) hx hb dL_law_562 (by decide) ?_
            exact g_lret hx hb hr hlk hRc hRs hnm hS h hq1 dL_law_563
        · have h := hx530 _ e530
          exact g_no h
      have h := g_iff w40_8 h
      by_cases w40_9 : (x36 &&& 31) = 9
      · refine lv_tableIn (tgt := 584) (off := 544) hx hb dL_law_40 (by rw [w40_9]; decide) (by rw [w40_9]; decide) (by rw [w40_9]; decide) (by decide) ?_
        have h := g_ift w40_9 h
        refine g_aload_n hx hb hl 1 rfl dL_law_584 ?_
        obtain ⟨b585, hb585, h⟩ := g_bnd h
        obtain ⟨hr585, hk585⟩ := g_chk hb585
        obtain ⟨z585, h585, h⟩ := g_bnd h
        refine g_callV (n := 0) (b := b585) (av := []) (rs := []) hx hb hml hown hts hKn hRc hRs hS hl (sX1_differs l E D h585) (lw_V q1063 q1064 q1065 q113 q1066) ⟨rfl, by decide, by decide, by decide +kernel⟩ ⟨by rw [hRf]; omega, by rw [hRl]; omega⟩ (g_recv hKn hS hk585 (by decide) (by decide)) rfl (by rw [hr585]; rfl) (Nat.le_of_ble_eq_true rfl) dL_law_585 (fun H locs cells slots hS => ?_)
        refine g_aload_n hx hb hl 2 rfl dL_law_588 ?_
        obtain ⟨b589, hb589, h⟩ := g_bnd h
        obtain ⟨hr589, hk589⟩ := g_chk hb589
        obtain ⟨z589, h589, h⟩ := g_bnd h
        refine g_callV (n := 0) (b := b589) (av := []) (rs := [.inl z585.1]) hx hb hml hown hts hKn hRc hRs hS hl (sX4_differs l E D h589) (lw_V q2376 q2377 q2378 q135 q2379) ⟨rfl, by decide, by decide, by decide +kernel⟩ ⟨by rw [hRf]; omega, by rw [hRl]; omega⟩ (g_recv hKn hS hk589 (by decide) (by decide)) rfl (by rw [hr589]; rfl) (Nat.le_of_ble_eq_true rfl) dL_law_589 (fun H locs cells slots hS => ?_)
        refine lv_icmp_eq (tgt := 1090) hx hb dL_law_592 (by decide) (fun c_592 => ?_) (fun c_592 => ?_)
        · have h := g_ift c_592 h
          exact sL_law_b1090 C hlT ih _ _ _ _ _ _ _ h hq1 _ _ _ _ _ hS (gls_sub hl [0, 1, 2, 3, 4] rfl)
        · have h := g_iff c_592 h
          refine lv_iconst (v := 0) hx hb dL_law_595 (by decide) ?_
          exact g_lret hx hb hr hlk hRc hRs hnm hS h hq1 dL_law_596
      have h := g_iff w40_9 h
      by_cases w40_10 : (x36 &&& 31) = 10
      · refine lv_tableIn (tgt := 597) (off := 557) hx hb dL_law_40 (by rw [w40_10]; decide) (by rw [w40_10]; decide) (by rw [w40_10]; decide) (by decide) ?_
        have h := g_ift w40_10 h
        refine g_aload_n hx hb hl 1 rfl dL_law_597 ?_
        refine g_aload_n hx hb hl 0 rfl dL_law_598 ?_
        refine g_iload hx hb hl 4 rfl dL_law_599 ?_
        refine lv_iconst (v := 1) hx hb dL_law_601 (by decide) ?_
        refine lv_iadd hx hb dL_law_602 ?_
        refine g_ialoadG hx hb hKn hS h dL_law_603 (fun x603 h => ?_)
        refine g_aload_n hx hb hl 0 rfl dL_law_604 ?_
        refine g_iload hx hb hl 4 rfl dL_law_605 ?_
        refine lv_iconst (v := 2) hx hb dL_law_607 (by decide) ?_
        refine lv_iadd hx hb dL_law_608 ?_
        refine g_ialoadG hx hb hKn hS h dL_law_609 (fun x609 h => ?_)
        refine g_aload_n hx hb hl 3 rfl dL_law_610 ?_
        obtain ⟨o611, h611, ha611, hx611⟩ := g_catE h
        refine g_callSh (n := 4) (av := [.inr (.inr v1), .inl x603, .inl x609, .inr (.inr v3)]) (rs := []) hx hb hml hown hts hKn hRc hRs hS hl (sX0_could l E D hlT h611) (lw_SW q1764 q1765 q112 q1766) ⟨by decide, by decide, by decide +kernel⟩ ⟨by rw [hRf]; omega, by rw [hRl]; omega⟩ rfl rfl (Nat.le_of_ble_eq_true rfl) dL_law_611 (fun z611 e611 H locs cells slots hS => ?_) (fun k611 a611 G611 e611 n1 n2 nk nB H locs cells slots hS => ?_)
        · have h := ha611 _ e611
          refine g_istore (l1 := [(5, .inl z611.1), (0, .inr (.inr v0)), (1, .inr (.inr v1)), (2, .inr (.inr v2)), (3, .inr (.inr v3)), (4, .inl v4)]) hx hb hl (by decide) rfl dL_law_614 (fun ls hl => ?_)
          refine g_aload_n hx hb hl 3 rfl dL_law_616 ?_
          refine g_aload_n hx hb hl 1 rfl dL_law_617 ?_
          refine g_iload hx hb hl 5 rfl dL_law_618 ?_
          refine lv_iconst (v := 1) hx hb dL_law_620 (by decide) ?_
          refine lv_iadd hx hb dL_law_621 ?_
          refine g_ialoadG hx hb hKn hS h dL_law_622 (fun x622 h => ?_)
          refine g_aload_n hx hb hl 1 rfl dL_law_623 ?_
          refine g_iload hx hb hl 5 rfl dL_law_624 ?_
          refine lv_iconst (v := 2) hx hb dL_law_626 (by decide) ?_
          refine lv_iadd hx hb dL_law_627 ?_
          refine g_ialoadG hx hb hKn hS h dL_law_628 (fun x628 h => ?_)
          obtain ⟨b629, hb629, h⟩ := g_bnd h
          obtain ⟨hr629, hk629⟩ := g_chk hb629
          obtain ⟨z629, h629, h⟩ := g_bnd h
          refine g_callV (n := 2) (b := b629) (av := [.inl x622, .inl x628]) (rs := []) hx hb hml hown hts hKn hRc hRs hS hl (sX4_could l E D h629) (lw_V q2380 q2381 q2382 q135 q2383) ⟨rfl, by decide, by decide, by decide +kernel⟩ ⟨by rw [hRf]; omega, by rw [hRl]; omega⟩ (g_recv hKn hS hk629 (by decide) (by decide)) rfl (by rw [hr629]; rfl) (Nat.le_of_ble_eq_true rfl) dL_law_629 (fun H locs cells slots hS => ?_)
          refine g_istore (l1 := [(6, .inl z629.1), (5, .inl z611.1), (0, .inr (.inr v0)), (1, .inr (.inr v1)), (2, .inr (.inr v2)), (3, .inr (.inr v3)), (4, .inl v4)]) hx hb hl (by decide) rfl dL_law_632 (fun ls hl => ?_)
          refine g_aload_n hx hb hl 4 rfl dL_law_634 ?_
          obtain ⟨b635, hb635, h⟩ := g_bnd h
          obtain ⟨hr635, hk635⟩ := g_chk hb635
          obtain ⟨z635, h635, h⟩ := g_bnd h
          refine g_callV (n := 0) (b := b635) (av := []) (rs := []) hx hb hml hown hts hKn hRc hRs hS hl (sX4_thrown l E D h635) (lw_V q2076 q2077 q2078 q135 q2079) ⟨rfl, by decide, by decide, by decide +kernel⟩ ⟨by rw [hRf]; omega, by rw [hRl]; omega⟩ (g_recv hKn hS hk635 (by decide) (by decide)) rfl (by rw [hr635]; rfl) (Nat.le_of_ble_eq_true rfl) dL_law_635 (fun H locs cells slots hS => ?_)
          refine g_iload hx hb hl 1 rfl dL_law_638 ?_
          refine lv_icmp_eq (tgt := 645) hx hb dL_law_640 (by decide) (fun c_640 => ?_) (fun c_640 => ?_)
          · have h := g_ift c_640 h
            refine g_iload hx hb hl 1 rfl dL_law_645 ?_
            refine lv_if_ne (tgt := 662) hx hb dL_law_647 (by decide) (fun c_647 => ?_) (fun c_647 => ?_)
            · have h := g_ift c_647 h
              exact sL_law_b662 C hlT ih _ _ _ _ _ _ _ h hq1 _ _ _ _ _ hS (gls_sub hl [2, 3, 4, 5, 6] rfl)
            · have h := g_iff (fun z => z c_647) h
              refine g_aload_n hx hb hl 5 rfl dL_law_650 ?_
              refine lv_iconst (v := 0) hx hb dL_law_651 (by decide) ?_
              refine g_laloadG hx hb hKn hS h dL_law_652 (fun x652 h => ?_)
              refine g_iload hx hb hl 0 rfl dL_law_653 ?_
              refine lv_i2l (v := (Int32.toInt64 z629.1)) hx hb dL_law_655 rfl ?_
              refine W.lcmp hx hb dL_law_656 ?_
              refine lv_if_eq (tgt := 662) hx hb dL_law_657 (by decide) (fun c_657 => ?_) (fun c_657 => ?_)
              · have h := g_ift c_657 h
                exact sL_law_b662 C hlT ih _ _ _ _ _ _ _ h hq1 _ _ _ _ _ hS (gls_sub hl [2, 3, 4, 5, 6] rfl)
              · have h := g_iff c_657 h
                refine lv_iconst (v := 0) hx hb dL_law_660 (by decide) ?_
                exact g_lret hx hb hr hlk hRc hRs hnm hS h hq1 dL_law_661
          · have h := g_iff c_640 h
            refine lv_iconst (v := 0) hx hb dL_law_643 (by decide) ?_
            exact g_lret hx hb hr hlk hRc hRs hnm hS h hq1 dL_law_644
        · have h := hx611 _ e611
          exact g_no h
      have h := g_iff w40_10 h
      by_cases w40_11 : (x36 &&& 31) = 11
      · refine lv_tableIn (tgt := 665) (off := 625) hx hb dL_law_40 (by rw [w40_11]; decide) (by rw [w40_11]; decide) (by rw [w40_11]; decide) (by decide) ?_
        have h := g_ift w40_11 h
        refine g_aload_n hx hb hl 1 rfl dL_law_665 ?_
        obtain ⟨b666, hb666, h⟩ := g_bnd h
        obtain ⟨hr666, hk666⟩ := g_chk hb666
        obtain ⟨z666, h666, h⟩ := g_bnd h
        refine g_callV (n := 0) (b := b666) (av := []) (rs := []) hx hb hml hown hts hKn hRc hRs hS hl (sX1_needs l E D h666) (lw_V q1067 q1068 q1069 q113 q1070) ⟨rfl, by decide, by decide, by decide +kernel⟩ ⟨by rw [hRf]; omega, by rw [hRl]; omega⟩ (g_recv hKn hS hk666 (by decide) (by decide)) rfl (by rw [hr666]; rfl) (Nat.le_of_ble_eq_true rfl) dL_law_666 (fun H locs cells slots hS => ?_)
        refine g_aload_n hx hb hl 2 rfl dL_law_669 ?_
        obtain ⟨b670, hb670, h⟩ := g_bnd h
        obtain ⟨hr670, hk670⟩ := g_chk hb670
        obtain ⟨z670, h670, h⟩ := g_bnd h
        refine g_callV (n := 0) (b := b670) (av := []) (rs := [.inl z666.1]) hx hb hml hown hts hKn hRc hRs hS hl (sX4_needs l E D h670) (lw_V q2388 q2389 q2390 q135 q2391) ⟨rfl, by decide, by decide, by decide +kernel⟩ ⟨by rw [hRf]; omega, by rw [hRl]; omega⟩ (g_recv hKn hS hk670 (by decide) (by decide)) rfl (by rw [hr670]; rfl) (Nat.le_of_ble_eq_true rfl) dL_law_670 (fun H locs cells slots hS => ?_)
        refine lv_icmp_eq (tgt := 1090) hx hb dL_law_673 (by decide) (fun c_673 => ?_) (fun c_673 => ?_)
        · have h := g_ift c_673 h
          exact sL_law_b1090 C hlT ih _ _ _ _ _ _ _ h hq1 _ _ _ _ _ hS (gls_sub hl [0, 1, 2, 3, 4] rfl)
        · have h := g_iff c_673 h
          refine lv_iconst (v := 0) hx hb dL_law_676 (by decide) ?_
          exact g_lret hx hb hr hlk hRc hRs hnm hS h hq1 dL_law_677
      have h := g_iff w40_11 h
      by_cases w40_12 : (x36 &&& 31) = 12
      · refine lv_tableIn (tgt := 678) (off := 638) hx hb dL_law_40 (by rw [w40_12]; decide) (by rw [w40_12]; decide) (by rw [w40_12]; decide) (by decide) ?_
        have h := g_ift w40_12 h
        refine g_aload_n hx hb hl 1 rfl dL_law_678 ?_
        obtain ⟨b679, hb679, h⟩ := g_bnd h
        obtain ⟨hr679, hk679⟩ := g_chk hb679
        obtain ⟨z679, h679, h⟩ := g_bnd h
        refine g_callV (n := 0) (b := b679) (av := []) (rs := []) hx hb hml hown hts hKn hRc hRs hS hl (sX1_cut l E D h679) (lw_V q1079 q1080 q1081 q113 q1082) ⟨rfl, by decide, by decide, by decide +kernel⟩ ⟨by rw [hRf]; omega, by rw [hRl]; omega⟩ (g_recv hKn hS hk679 (by decide) (by decide)) rfl (by rw [hr679]; rfl) (Nat.le_of_ble_eq_true rfl) dL_law_679 (fun H locs cells slots hS => ?_)
        refine g_aload_n hx hb hl 2 rfl dL_law_682 ?_
        obtain ⟨b683, hb683, h⟩ := g_bnd h
        obtain ⟨hr683, hk683⟩ := g_chk hb683
        obtain ⟨z683, h683, h⟩ := g_bnd h
        refine g_callV (n := 0) (b := b683) (av := []) (rs := [.inl z679.1]) hx hb hml hown hts hKn hRc hRs hS hl (sX4_cut l E D h683) (lw_V q2396 q2397 q2398 q135 q2399) ⟨rfl, by decide, by decide, by decide +kernel⟩ ⟨by rw [hRf]; omega, by rw [hRl]; omega⟩ (g_recv hKn hS hk683 (by decide) (by decide)) rfl (by rw [hr683]; rfl) (Nat.le_of_ble_eq_true rfl) dL_law_683 (fun H locs cells slots hS => ?_)
        refine lv_icmp_eq (tgt := 1090) hx hb dL_law_686 (by decide) (fun c_686 => ?_) (fun c_686 => ?_)
        · have h := g_ift c_686 h
          exact sL_law_b1090 C hlT ih _ _ _ _ _ _ _ h hq1 _ _ _ _ _ hS (gls_sub hl [0, 1, 2, 3, 4] rfl)
        · have h := g_iff c_686 h
          refine lv_iconst (v := 0) hx hb dL_law_689 (by decide) ?_
          exact g_lret hx hb hr hlk hRc hRs hnm hS h hq1 dL_law_690
      have h := g_iff w40_12 h
      by_cases w40_13 : (x36 &&& 31) = 13
      · refine lv_tableIn (tgt := 691) (off := 651) hx hb dL_law_40 (by rw [w40_13]; decide) (by rw [w40_13]; decide) (by rw [w40_13]; decide) (by decide) ?_
        have h := g_ift w40_13 h
        refine g_aload_n hx hb hl 1 rfl dL_law_691 ?_
        refine g_aload_n hx hb hl 0 rfl dL_law_692 ?_
        refine g_iload hx hb hl 4 rfl dL_law_693 ?_
        refine lv_iconst (v := 1) hx hb dL_law_695 (by decide) ?_
        refine lv_iadd hx hb dL_law_696 ?_
        refine g_ialoadG hx hb hKn hS h dL_law_697 (fun x697 h => ?_)
        refine g_aload_n hx hb hl 3 rfl dL_law_698 ?_
        obtain ⟨o699, h699, ha699, hx699⟩ := g_catE h
        refine g_callSh (n := 3) (av := [.inr (.inr v1), .inl x697, .inr (.inr v3)]) (rs := []) hx hb hml hown hts hKn hRc hRs hS hl (sX0_left l E D hlT h699) (lw_SW q1771 q1772 q112 q1773) ⟨by decide, by decide, by decide +kernel⟩ ⟨by rw [hRf]; omega, by rw [hRl]; omega⟩ rfl rfl (Nat.le_of_ble_eq_true rfl) dL_law_699 (fun z699 e699 H locs cells slots hS => ?_) (fun k699 a699 G699 e699 n1 n2 nk nB H locs cells slots hS => ?_)
        · have h := ha699 _ e699
          refine g_istore (l1 := [(5, .inl z699.1), (0, .inr (.inr v0)), (1, .inr (.inr v1)), (2, .inr (.inr v2)), (3, .inr (.inr v3)), (4, .inl v4)]) hx hb hl (by decide) rfl dL_law_702 (fun ls hl => ?_)
          refine g_aload_n hx hb hl 3 rfl dL_law_704 ?_
          refine g_aload_n hx hb hl 1 rfl dL_law_705 ?_
          refine g_iload hx hb hl 5 rfl dL_law_706 ?_
          refine lv_iconst (v := 1) hx hb dL_law_708 (by decide) ?_
          refine lv_iadd hx hb dL_law_709 ?_
          refine g_ialoadG hx hb hKn hS h dL_law_710 (fun x710 h => ?_)
          obtain ⟨b711, hb711, h⟩ := g_bnd h
          obtain ⟨hr711, hk711⟩ := g_chk hb711
          obtain ⟨z711, h711, h⟩ := g_bnd h
          refine g_callV (n := 1) (b := b711) (av := [.inl x710]) (rs := []) hx hb hml hown hts hKn hRc hRs hS hl (sX4_left l E D h711) (lw_V q2400 q2401 q2402 q135 q2403) ⟨rfl, by decide, by decide, by decide +kernel⟩ ⟨by rw [hRf]; omega, by rw [hRl]; omega⟩ (g_recv hKn hS hk711 (by decide) (by decide)) rfl (by rw [hr711]; rfl) (Nat.le_of_ble_eq_true rfl) dL_law_711 (fun H locs cells slots hS => ?_)
          refine g_istore (l1 := [(6, .inl z711.1), (5, .inl z699.1), (0, .inr (.inr v0)), (1, .inr (.inr v1)), (2, .inr (.inr v2)), (3, .inr (.inr v3)), (4, .inl v4)]) hx hb hl (by decide) rfl dL_law_714 (fun ls hl => ?_)
          refine g_aload_n hx hb hl 4 rfl dL_law_716 ?_
          obtain ⟨b717, hb717, h⟩ := g_bnd h
          obtain ⟨hr717, hk717⟩ := g_chk hb717
          obtain ⟨z717, h717, h⟩ := g_bnd h
          refine g_callV (n := 0) (b := b717) (av := []) (rs := []) hx hb hml hown hts hKn hRc hRs hS hl (sX4_thrown l E D h717) (lw_V q2076 q2077 q2078 q135 q2079) ⟨rfl, by decide, by decide, by decide +kernel⟩ ⟨by rw [hRf]; omega, by rw [hRl]; omega⟩ (g_recv hKn hS hk717 (by decide) (by decide)) rfl (by rw [hr717]; rfl) (Nat.le_of_ble_eq_true rfl) dL_law_717 (fun H locs cells slots hS => ?_)
          refine g_iload hx hb hl 1 rfl dL_law_720 ?_
          refine lv_icmp_eq (tgt := 727) hx hb dL_law_722 (by decide) (fun c_722 => ?_) (fun c_722 => ?_)
          · have h := g_ift c_722 h
            refine g_iload hx hb hl 1 rfl dL_law_727 ?_
            refine lv_if_ne (tgt := 751) hx hb dL_law_729 (by decide) (fun c_729 => ?_) (fun c_729 => ?_)
            · have h := g_ift c_729 h
              exact sL_law_b751 C hlT ih _ _ _ _ _ _ _ h hq1 _ _ _ _ _ hS (gls_sub hl [2, 3, 4, 5, 6] rfl)
            · have h := g_iff (fun z => z c_729) h
              refine g_aload_n hx hb hl 5 rfl dL_law_732 ?_
              refine lv_iconst (v := 0) hx hb dL_law_733 (by decide) ?_
              refine g_laloadG hx hb hKn hS h dL_law_734 (fun x734 h => ?_)
              refine g_iload hx hb hl 0 rfl dL_law_735 ?_
              refine lv_if_eq (tgt := 744) hx hb dL_law_737 (by decide) (fun c_737 => ?_) (fun c_737 => ?_)
              · have h := g_ift c_737 h
                refine lv_lconst (v := 0) hx hb dL_law_744 (by decide) ?_
                exact sL_law_b745 C hlT ih _ _ _ _ _ _ _ _ _ h hq1 _ _ _ _ _ hS (gls_sub hl [2, 3, 4, 5, 6] rfl)
              · have h := g_iff c_737 h
                refine lv_lconst (v := 1) hx hb dL_law_740 (by decide) ?_
                refine lv_goto (tgt := 745) hx hb dL_law_741 (by decide) ?_
                exact sL_law_b745 C hlT ih _ _ _ _ _ _ _ _ _ h hq1 _ _ _ _ _ hS (gls_sub hl [2, 3, 4, 5, 6] rfl)
          · have h := g_iff c_722 h
            refine lv_iconst (v := 0) hx hb dL_law_725 (by decide) ?_
            exact g_lret hx hb hr hlk hRc hRs hnm hS h hq1 dL_law_726
        · have h := hx699 _ e699
          exact g_no h
      have h := g_iff w40_13 h
      by_cases w40_14 : (x36 &&& 31) = 14
      · refine lv_tableIn (tgt := 754) (off := 714) hx hb dL_law_40 (by rw [w40_14]; decide) (by rw [w40_14]; decide) (by rw [w40_14]; decide) (by decide) ?_
        have h := g_ift w40_14 h
        refine g_aload_n hx hb hl 1 rfl dL_law_754 ?_
        refine g_aload_n hx hb hl 0 rfl dL_law_755 ?_
        refine g_iload hx hb hl 4 rfl dL_law_756 ?_
        refine lv_iconst (v := 1) hx hb dL_law_758 (by decide) ?_
        refine lv_iadd hx hb dL_law_759 ?_
        refine g_ialoadG hx hb hKn hS h dL_law_760 (fun x760 h => ?_)
        refine g_aload_n hx hb hl 0 rfl dL_law_761 ?_
        refine g_iload hx hb hl 4 rfl dL_law_762 ?_
        refine lv_iconst (v := 2) hx hb dL_law_764 (by decide) ?_
        refine lv_iadd hx hb dL_law_765 ?_
        refine g_ialoadG hx hb hKn hS h dL_law_766 (fun x766 h => ?_)
        refine lv_i2l (v := (Int32.toInt64 x766)) hx hb dL_law_767 rfl ?_
        refine lv_bipush (v := 32) hx hb dL_law_768 (by decide) ?_
        refine lv_lshl (v := ((Int32.toInt64 x766) <<< (Int32.toInt64 32 &&& 63))) hx hb dL_law_770 rfl ?_
        refine g_aload_n hx hb hl 0 rfl dL_law_771 ?_
        refine g_iload hx hb hl 4 rfl dL_law_772 ?_
        refine lv_iconst (v := 3) hx hb dL_law_774 (by decide) ?_
        refine lv_iadd hx hb dL_law_775 ?_
        refine g_ialoadG hx hb hKn hS h dL_law_776 (fun x776 h => ?_)
        refine lv_i2l (v := (Int32.toInt64 x776)) hx hb dL_law_777 rfl ?_
        refine lv_ldc2 (v := 4294967295) hx hb hown (hts _ q2444) dL_law_778 ?_
        refine lv_land hx hb dL_law_781 ?_
        refine lv_lor hx hb dL_law_782 ?_
        refine g_aload_n hx hb hl 3 rfl dL_law_783 ?_
        obtain ⟨o784, h784, ha784, hx784⟩ := g_catE h
        refine g_callSh (n := 4) (av := [.inr (.inr v1), .inl x760, .inr (.inl (((Int32.toInt64 x766) <<< (Int32.toInt64 32 &&& 63)) ||| ((Int32.toInt64 x776) &&& 4294967295))), .inr (.inr v3)]) (rs := []) hx hb hml hown hts hKn hRc hRs hS hl (sX0_play l E D hlT h784) (lw_SW q1778 q1779 q112 q1780) ⟨by decide, by decide, by decide +kernel⟩ ⟨by rw [hRf]; omega, by rw [hRl]; omega⟩ rfl rfl (Nat.le_of_ble_eq_true rfl) dL_law_784 (fun z784 e784 H locs cells slots hS => ?_) (fun k784 a784 G784 e784 n1 n2 nk nB H locs cells slots hS => ?_)
        · have h := ha784 _ e784
          refine g_istore (l1 := [(5, .inl z784.1), (0, .inr (.inr v0)), (1, .inr (.inr v1)), (2, .inr (.inr v2)), (3, .inr (.inr v3)), (4, .inl v4)]) hx hb hl (by decide) rfl dL_law_787 (fun ls hl => ?_)
          refine g_aload_n hx hb hl 3 rfl dL_law_789 ?_
          refine g_aload_n hx hb hl 1 rfl dL_law_790 ?_
          refine g_iload hx hb hl 5 rfl dL_law_791 ?_
          refine lv_iconst (v := 1) hx hb dL_law_793 (by decide) ?_
          refine lv_iadd hx hb dL_law_794 ?_
          refine g_ialoadG hx hb hKn hS h dL_law_795 (fun x795 h => ?_)
          refine g_aload_n hx hb hl 1 rfl dL_law_796 ?_
          refine g_iload hx hb hl 5 rfl dL_law_797 ?_
          refine lv_iconst (v := 2) hx hb dL_law_799 (by decide) ?_
          refine lv_iadd hx hb dL_law_800 ?_
          refine g_ialoadG hx hb hKn hS h dL_law_801 (fun x801 h => ?_)
          refine lv_i2l (v := (Int32.toInt64 x801)) hx hb dL_law_802 rfl ?_
          refine lv_bipush (v := 32) hx hb dL_law_803 (by decide) ?_
          refine lv_lshl (v := ((Int32.toInt64 x801) <<< (Int32.toInt64 32 &&& 63))) hx hb dL_law_805 rfl ?_
          refine g_aload_n hx hb hl 1 rfl dL_law_806 ?_
          refine g_iload hx hb hl 5 rfl dL_law_807 ?_
          refine lv_iconst (v := 3) hx hb dL_law_809 (by decide) ?_
          refine lv_iadd hx hb dL_law_810 ?_
          refine g_ialoadG hx hb hKn hS h dL_law_811 (fun x811 h => ?_)
          refine lv_i2l (v := (Int32.toInt64 x811)) hx hb dL_law_812 rfl ?_
          refine lv_ldc2 (v := 4294967295) hx hb hown (hts _ q2444) dL_law_813 ?_
          refine lv_land hx hb dL_law_816 ?_
          refine lv_lor hx hb dL_law_817 ?_
          obtain ⟨b818, hb818, h⟩ := g_bnd h
          obtain ⟨hr818, hk818⟩ := g_chk hb818
          obtain ⟨z818, h818, h⟩ := g_bnd h
          refine g_callV (n := 2) (b := b818) (av := [.inl x795, .inr (.inl (((Int32.toInt64 x801) <<< (Int32.toInt64 32 &&& 63)) ||| ((Int32.toInt64 x811) &&& 4294967295)))]) (rs := []) hx hb hml hown hts hKn hRc hRs hS hl (sX4_play l E D h818) (lw_V q2408 q2409 q2410 q135 q2411) ⟨rfl, by decide, by decide, by decide +kernel⟩ ⟨by rw [hRf]; omega, by rw [hRl]; omega⟩ (g_recv hKn hS hk818 (by decide) (by decide)) rfl (by rw [hr818]; rfl) (Nat.le_of_ble_eq_true rfl) dL_law_818 (fun H locs cells slots hS => ?_)
          refine g_istore (l1 := [(6, .inl z818.1), (5, .inl z784.1), (0, .inr (.inr v0)), (1, .inr (.inr v1)), (2, .inr (.inr v2)), (3, .inr (.inr v3)), (4, .inl v4)]) hx hb hl (by decide) rfl dL_law_821 (fun ls hl => ?_)
          refine g_aload_n hx hb hl 4 rfl dL_law_823 ?_
          obtain ⟨b824, hb824, h⟩ := g_bnd h
          obtain ⟨hr824, hk824⟩ := g_chk hb824
          obtain ⟨z824, h824, h⟩ := g_bnd h
          refine g_callV (n := 0) (b := b824) (av := []) (rs := []) hx hb hml hown hts hKn hRc hRs hS hl (sX4_thrown l E D h824) (lw_V q2076 q2077 q2078 q135 q2079) ⟨rfl, by decide, by decide, by decide +kernel⟩ ⟨by rw [hRf]; omega, by rw [hRl]; omega⟩ (g_recv hKn hS hk824 (by decide) (by decide)) rfl (by rw [hr824]; rfl) (Nat.le_of_ble_eq_true rfl) dL_law_824 (fun H locs cells slots hS => ?_)
          refine g_iload hx hb hl 1 rfl dL_law_827 ?_
          refine lv_icmp_eq (tgt := 834) hx hb dL_law_829 (by decide) (fun c_829 => ?_) (fun c_829 => ?_)
          · have h := g_ift c_829 h
            refine g_iload hx hb hl 1 rfl dL_law_834 ?_
            refine lv_if_ne (tgt := 851) hx hb dL_law_836 (by decide) (fun c_836 => ?_) (fun c_836 => ?_)
            · have h := g_ift c_836 h
              exact sL_law_b851 C hlT ih _ _ _ _ _ _ _ h hq1 _ _ _ _ _ hS (gls_sub hl [2, 3, 4, 5, 6] rfl)
            · have h := g_iff (fun z => z c_836) h
              refine g_aload_n hx hb hl 5 rfl dL_law_839 ?_
              refine lv_iconst (v := 0) hx hb dL_law_840 (by decide) ?_
              refine g_laloadG hx hb hKn hS h dL_law_841 (fun x841 h => ?_)
              refine g_iload hx hb hl 0 rfl dL_law_842 ?_
              refine lv_i2l (v := (Int32.toInt64 z818.1)) hx hb dL_law_844 rfl ?_
              refine W.lcmp hx hb dL_law_845 ?_
              refine lv_if_eq (tgt := 851) hx hb dL_law_846 (by decide) (fun c_846 => ?_) (fun c_846 => ?_)
              · have h := g_ift c_846 h
                exact sL_law_b851 C hlT ih _ _ _ _ _ _ _ h hq1 _ _ _ _ _ hS (gls_sub hl [2, 3, 4, 5, 6] rfl)
              · have h := g_iff c_846 h
                refine lv_iconst (v := 0) hx hb dL_law_849 (by decide) ?_
                exact g_lret hx hb hr hlk hRc hRs hnm hS h hq1 dL_law_850
          · have h := g_iff c_829 h
            refine lv_iconst (v := 0) hx hb dL_law_832 (by decide) ?_
            exact g_lret hx hb hr hlk hRc hRs hnm hS h hq1 dL_law_833
        · have h := hx784 _ e784
          exact g_no h
      have h := g_iff w40_14 h
      by_cases w40_15 : (x36 &&& 31) = 15
      · refine lv_tableIn (tgt := 854) (off := 814) hx hb dL_law_40 (by rw [w40_15]; decide) (by rw [w40_15]; decide) (by rw [w40_15]; decide) (by decide) ?_
        have h := g_ift w40_15 h
        refine g_aload_n hx hb hl 1 rfl dL_law_854 ?_
        refine g_aload_n hx hb hl 0 rfl dL_law_855 ?_
        refine g_iload hx hb hl 4 rfl dL_law_856 ?_
        refine lv_iconst (v := 1) hx hb dL_law_858 (by decide) ?_
        refine lv_iadd hx hb dL_law_859 ?_
        refine g_ialoadG hx hb hKn hS h dL_law_860 (fun x860 h => ?_)
        refine g_aload_n hx hb hl 0 rfl dL_law_861 ?_
        refine g_iload hx hb hl 4 rfl dL_law_862 ?_
        refine lv_iconst (v := 2) hx hb dL_law_864 (by decide) ?_
        refine lv_iadd hx hb dL_law_865 ?_
        refine g_ialoadG hx hb hKn hS h dL_law_866 (fun x866 h => ?_)
        refine g_aload_n hx hb hl 3 rfl dL_law_867 ?_
        obtain ⟨o868, h868, ha868, hx868⟩ := g_catE h
        refine g_callSh (n := 4) (av := [.inr (.inr v1), .inl x860, .inl x866, .inr (.inr v3)]) (rs := []) hx hb hml hown hts hKn hRc hRs hS hl (sX0_of l E D hlT h868) (lw_SW q1810 q1811 q112 q1812) ⟨by decide, by decide, by decide +kernel⟩ ⟨by rw [hRf]; omega, by rw [hRl]; omega⟩ rfl rfl (Nat.le_of_ble_eq_true rfl) dL_law_868 (fun z868 e868 H locs cells slots hS => ?_) (fun k868 a868 G868 e868 n1 n2 nk nB H locs cells slots hS => ?_)
        · have h := ha868 _ e868
          refine g_istore (l1 := [(5, .inl z868.1), (0, .inr (.inr v0)), (1, .inr (.inr v1)), (2, .inr (.inr v2)), (3, .inr (.inr v3)), (4, .inl v4)]) hx hb hl (by decide) rfl dL_law_871 (fun ls hl => ?_)
          refine g_aload_n hx hb hl 3 rfl dL_law_873 ?_
          refine g_aload_n hx hb hl 1 rfl dL_law_874 ?_
          refine g_iload hx hb hl 5 rfl dL_law_875 ?_
          refine lv_iconst (v := 1) hx hb dL_law_877 (by decide) ?_
          refine lv_iadd hx hb dL_law_878 ?_
          refine g_ialoadG hx hb hKn hS h dL_law_879 (fun x879 h => ?_)
          refine g_aload_n hx hb hl 1 rfl dL_law_880 ?_
          refine g_iload hx hb hl 5 rfl dL_law_881 ?_
          refine lv_iconst (v := 2) hx hb dL_law_883 (by decide) ?_
          refine lv_iadd hx hb dL_law_884 ?_
          refine g_ialoadG hx hb hKn hS h dL_law_885 (fun x885 h => ?_)
          obtain ⟨b886, hb886, h⟩ := g_bnd h
          obtain ⟨hr886, hk886⟩ := g_chk hb886
          obtain ⟨z886, h886, h⟩ := g_bnd h
          refine g_callV (n := 2) (b := b886) (av := [.inl x879, .inl x885]) (rs := []) hx hb hml hown hts hKn hRc hRs hS hl (sX4_of l E D h886) (lw_V q2424 q2425 q2426 q135 q2427) ⟨rfl, by decide, by decide, by decide +kernel⟩ ⟨by rw [hRf]; omega, by rw [hRl]; omega⟩ (g_recv hKn hS hk886 (by decide) (by decide)) rfl (by rw [hr886]; rfl) (Nat.le_of_ble_eq_true rfl) dL_law_886 (fun H locs cells slots hS => ?_)
          refine g_istore (l1 := [(6, .inl z886.1), (5, .inl z868.1), (0, .inr (.inr v0)), (1, .inr (.inr v1)), (2, .inr (.inr v2)), (3, .inr (.inr v3)), (4, .inl v4)]) hx hb hl (by decide) rfl dL_law_889 (fun ls hl => ?_)
          refine g_aload_n hx hb hl 4 rfl dL_law_891 ?_
          obtain ⟨b892, hb892, h⟩ := g_bnd h
          obtain ⟨hr892, hk892⟩ := g_chk hb892
          obtain ⟨z892, h892, h⟩ := g_bnd h
          refine g_callV (n := 0) (b := b892) (av := []) (rs := []) hx hb hml hown hts hKn hRc hRs hS hl (sX4_thrown l E D h892) (lw_V q2076 q2077 q2078 q135 q2079) ⟨rfl, by decide, by decide, by decide +kernel⟩ ⟨by rw [hRf]; omega, by rw [hRl]; omega⟩ (g_recv hKn hS hk892 (by decide) (by decide)) rfl (by rw [hr892]; rfl) (Nat.le_of_ble_eq_true rfl) dL_law_892 (fun H locs cells slots hS => ?_)
          refine g_iload hx hb hl 1 rfl dL_law_895 ?_
          refine lv_icmp_eq (tgt := 902) hx hb dL_law_897 (by decide) (fun c_897 => ?_) (fun c_897 => ?_)
          · have h := g_ift c_897 h
            refine g_iload hx hb hl 1 rfl dL_law_902 ?_
            refine lv_if_ne (tgt := 919) hx hb dL_law_904 (by decide) (fun c_904 => ?_) (fun c_904 => ?_)
            · have h := g_ift c_904 h
              exact sL_law_b919 C hlT ih _ _ _ _ _ _ _ h hq1 _ _ _ _ _ hS (gls_sub hl [2, 3, 4, 5, 6] rfl)
            · have h := g_iff (fun z => z c_904) h
              refine g_aload_n hx hb hl 5 rfl dL_law_907 ?_
              refine lv_iconst (v := 0) hx hb dL_law_908 (by decide) ?_
              refine g_laloadG hx hb hKn hS h dL_law_909 (fun x909 h => ?_)
              refine g_iload hx hb hl 0 rfl dL_law_910 ?_
              refine lv_i2l (v := (Int32.toInt64 z886.1)) hx hb dL_law_912 rfl ?_
              refine W.lcmp hx hb dL_law_913 ?_
              refine lv_if_eq (tgt := 919) hx hb dL_law_914 (by decide) (fun c_914 => ?_) (fun c_914 => ?_)
              · have h := g_ift c_914 h
                exact sL_law_b919 C hlT ih _ _ _ _ _ _ _ h hq1 _ _ _ _ _ hS (gls_sub hl [2, 3, 4, 5, 6] rfl)
              · have h := g_iff c_914 h
                refine lv_iconst (v := 0) hx hb dL_law_917 (by decide) ?_
                exact g_lret hx hb hr hlk hRc hRs hnm hS h hq1 dL_law_918
          · have h := g_iff c_897 h
            refine lv_iconst (v := 0) hx hb dL_law_900 (by decide) ?_
            exact g_lret hx hb hr hlk hRc hRs hnm hS h hq1 dL_law_901
        · have h := hx868 _ e868
          exact g_no h
      have h := g_iff w40_15 h
      by_cases w40_16 : (x36 &&& 31) = 16
      · refine lv_tableIn (tgt := 922) (off := 882) hx hb dL_law_40 (by rw [w40_16]; decide) (by rw [w40_16]; decide) (by rw [w40_16]; decide) (by decide) ?_
        have h := g_ift w40_16 h
        refine g_aload_n hx hb hl 1 rfl dL_law_922 ?_
        refine g_aload_n hx hb hl 0 rfl dL_law_923 ?_
        refine g_iload hx hb hl 4 rfl dL_law_924 ?_
        refine lv_iconst (v := 1) hx hb dL_law_926 (by decide) ?_
        refine lv_iadd hx hb dL_law_927 ?_
        refine g_ialoadG hx hb hKn hS h dL_law_928 (fun x928 h => ?_)
        refine g_aload_n hx hb hl 3 rfl dL_law_929 ?_
        obtain ⟨o930, h930, ha930, hx930⟩ := g_catE h
        refine g_callSh (n := 3) (av := [.inr (.inr v1), .inl x928, .inr (.inr v3)]) (rs := []) hx hb hml hown hts hKn hRc hRs hS hl (sX0_ring l E D hlT h930) (lw_SW q1817 q1818 q112 q1819) ⟨by decide, by decide, by decide +kernel⟩ ⟨by rw [hRf]; omega, by rw [hRl]; omega⟩ rfl rfl (Nat.le_of_ble_eq_true rfl) dL_law_930 (fun z930 e930 H locs cells slots hS => ?_) (fun k930 a930 G930 e930 n1 n2 nk nB H locs cells slots hS => ?_)
        · have h := ha930 _ e930
          refine g_istore (l1 := [(5, .inl z930.1), (0, .inr (.inr v0)), (1, .inr (.inr v1)), (2, .inr (.inr v2)), (3, .inr (.inr v3)), (4, .inl v4)]) hx hb hl (by decide) rfl dL_law_933 (fun ls hl => ?_)
          refine g_aload_n hx hb hl 3 rfl dL_law_935 ?_
          refine g_aload_n hx hb hl 1 rfl dL_law_936 ?_
          refine g_iload hx hb hl 5 rfl dL_law_937 ?_
          refine lv_iconst (v := 1) hx hb dL_law_939 (by decide) ?_
          refine lv_iadd hx hb dL_law_940 ?_
          refine g_ialoadG hx hb hKn hS h dL_law_941 (fun x941 h => ?_)
          obtain ⟨b942, hb942, h⟩ := g_bnd h
          obtain ⟨hr942, hk942⟩ := g_chk hb942
          obtain ⟨z942, h942, h⟩ := g_bnd h
          refine g_callV (n := 1) (b := b942) (av := [.inl x941]) (rs := []) hx hb hml hown hts hKn hRc hRs hS hl (sX4_ring l E D h942) (lw_V q2432 q2433 q2434 q135 q2435) ⟨rfl, by decide, by decide, by decide +kernel⟩ ⟨by rw [hRf]; omega, by rw [hRl]; omega⟩ (g_recv hKn hS hk942 (by decide) (by decide)) rfl (by rw [hr942]; rfl) (Nat.le_of_ble_eq_true rfl) dL_law_942 (fun H locs cells slots hS => ?_)
          refine g_istore (l1 := [(6, .inl z942.1), (5, .inl z930.1), (0, .inr (.inr v0)), (1, .inr (.inr v1)), (2, .inr (.inr v2)), (3, .inr (.inr v3)), (4, .inl v4)]) hx hb hl (by decide) rfl dL_law_945 (fun ls hl => ?_)
          refine g_aload_n hx hb hl 4 rfl dL_law_947 ?_
          obtain ⟨b948, hb948, h⟩ := g_bnd h
          obtain ⟨hr948, hk948⟩ := g_chk hb948
          obtain ⟨z948, h948, h⟩ := g_bnd h
          refine g_callV (n := 0) (b := b948) (av := []) (rs := []) hx hb hml hown hts hKn hRc hRs hS hl (sX4_thrown l E D h948) (lw_V q2076 q2077 q2078 q135 q2079) ⟨rfl, by decide, by decide, by decide +kernel⟩ ⟨by rw [hRf]; omega, by rw [hRl]; omega⟩ (g_recv hKn hS hk948 (by decide) (by decide)) rfl (by rw [hr948]; rfl) (Nat.le_of_ble_eq_true rfl) dL_law_948 (fun H locs cells slots hS => ?_)
          refine g_iload hx hb hl 1 rfl dL_law_951 ?_
          refine lv_icmp_eq (tgt := 958) hx hb dL_law_953 (by decide) (fun c_953 => ?_) (fun c_953 => ?_)
          · have h := g_ift c_953 h
            refine g_iload hx hb hl 1 rfl dL_law_958 ?_
            refine lv_if_ne (tgt := 975) hx hb dL_law_960 (by decide) (fun c_960 => ?_) (fun c_960 => ?_)
            · have h := g_ift c_960 h
              exact sL_law_b975 C hlT ih _ _ _ _ _ _ _ h hq1 _ _ _ _ _ hS (gls_sub hl [2, 3, 4, 5, 6] rfl)
            · have h := g_iff (fun z => z c_960) h
              refine g_aload_n hx hb hl 5 rfl dL_law_963 ?_
              refine lv_iconst (v := 0) hx hb dL_law_964 (by decide) ?_
              refine g_laloadG hx hb hKn hS h dL_law_965 (fun x965 h => ?_)
              refine g_iload hx hb hl 0 rfl dL_law_966 ?_
              refine lv_i2l (v := (Int32.toInt64 z942.1)) hx hb dL_law_968 rfl ?_
              refine W.lcmp hx hb dL_law_969 ?_
              refine lv_if_eq (tgt := 975) hx hb dL_law_970 (by decide) (fun c_970 => ?_) (fun c_970 => ?_)
              · have h := g_ift c_970 h
                exact sL_law_b975 C hlT ih _ _ _ _ _ _ _ h hq1 _ _ _ _ _ hS (gls_sub hl [2, 3, 4, 5, 6] rfl)
              · have h := g_iff c_970 h
                refine lv_iconst (v := 0) hx hb dL_law_973 (by decide) ?_
                exact g_lret hx hb hr hlk hRc hRs hnm hS h hq1 dL_law_974
          · have h := g_iff c_953 h
            refine lv_iconst (v := 0) hx hb dL_law_956 (by decide) ?_
            exact g_lret hx hb hr hlk hRc hRs hnm hS h hq1 dL_law_957
        · have h := hx930 _ e930
          exact g_no h
      have h := g_iff w40_16 h
      by_cases w40_17 : (x36 &&& 31) = 17
      · refine lv_tableIn (tgt := 978) (off := 938) hx hb dL_law_40 (by rw [w40_17]; decide) (by rw [w40_17]; decide) (by rw [w40_17]; decide) (by decide) ?_
        have h := g_ift w40_17 h
        refine g_aload_n hx hb hl 1 rfl dL_law_978 ?_
        refine g_aload_n hx hb hl 0 rfl dL_law_979 ?_
        refine g_iload hx hb hl 4 rfl dL_law_980 ?_
        refine lv_iconst (v := 1) hx hb dL_law_982 (by decide) ?_
        refine lv_iadd hx hb dL_law_983 ?_
        refine g_ialoadG hx hb hKn hS h dL_law_984 (fun x984 h => ?_)
        refine g_aload_n hx hb hl 3 rfl dL_law_985 ?_
        obtain ⟨o986, h986, ha986, hx986⟩ := g_catE h
        refine g_callSh (n := 3) (av := [.inr (.inr v1), .inl x984, .inr (.inr v3)]) (rs := []) hx hb hml hown hts hKn hRc hRs hS hl (sX0_chose l E D hlT h986) (lw_SW q1824 q1825 q112 q1826) ⟨by decide, by decide, by decide +kernel⟩ ⟨by rw [hRf]; omega, by rw [hRl]; omega⟩ rfl rfl (Nat.le_of_ble_eq_true rfl) dL_law_986 (fun z986 e986 H locs cells slots hS => ?_) (fun k986 a986 G986 e986 n1 n2 nk nB H locs cells slots hS => ?_)
        · have h := ha986 _ e986
          refine g_istore (l1 := [(5, .inl z986.1), (0, .inr (.inr v0)), (1, .inr (.inr v1)), (2, .inr (.inr v2)), (3, .inr (.inr v3)), (4, .inl v4)]) hx hb hl (by decide) rfl dL_law_989 (fun ls hl => ?_)
          refine g_aload_n hx hb hl 3 rfl dL_law_991 ?_
          refine g_aload_n hx hb hl 1 rfl dL_law_992 ?_
          refine g_iload hx hb hl 5 rfl dL_law_993 ?_
          refine lv_iconst (v := 1) hx hb dL_law_995 (by decide) ?_
          refine lv_iadd hx hb dL_law_996 ?_
          refine g_ialoadG hx hb hKn hS h dL_law_997 (fun x997 h => ?_)
          obtain ⟨b998, hb998, h⟩ := g_bnd h
          obtain ⟨hr998, hk998⟩ := g_chk hb998
          obtain ⟨z998, h998, h⟩ := g_bnd h
          refine g_callV (n := 1) (b := b998) (av := [.inl x997]) (rs := []) hx hb hml hown hts hKn hRc hRs hS hl (sX4_chose l E D h998) (lw_V q2436 q2437 q2438 q135 q2439) ⟨rfl, by decide, by decide, by decide +kernel⟩ ⟨by rw [hRf]; omega, by rw [hRl]; omega⟩ (g_recv hKn hS hk998 (by decide) (by decide)) rfl (by rw [hr998]; rfl) (Nat.le_of_ble_eq_true rfl) dL_law_998 (fun H locs cells slots hS => ?_)
          refine g_istore (l1 := [(6, .inl z998.1), (5, .inl z986.1), (0, .inr (.inr v0)), (1, .inr (.inr v1)), (2, .inr (.inr v2)), (3, .inr (.inr v3)), (4, .inl v4)]) hx hb hl (by decide) rfl dL_law_1001 (fun ls hl => ?_)
          refine g_aload_n hx hb hl 4 rfl dL_law_1003 ?_
          obtain ⟨b1004, hb1004, h⟩ := g_bnd h
          obtain ⟨hr1004, hk1004⟩ := g_chk hb1004
          obtain ⟨z1004, h1004, h⟩ := g_bnd h
          refine g_callV (n := 0) (b := b1004) (av := []) (rs := []) hx hb hml hown hts hKn hRc hRs hS hl (sX4_thrown l E D h1004) (lw_V q2076 q2077 q2078 q135 q2079) ⟨rfl, by decide, by decide, by decide +kernel⟩ ⟨by rw [hRf]; omega, by rw [hRl]; omega⟩ (g_recv hKn hS hk1004 (by decide) (by decide)) rfl (by rw [hr1004]; rfl) (Nat.le_of_ble_eq_true rfl) dL_law_1004 (fun H locs cells slots hS => ?_)
          refine g_iload hx hb hl 1 rfl dL_law_1007 ?_
          refine lv_icmp_eq (tgt := 1014) hx hb dL_law_1009 (by decide) (fun c_1009 => ?_) (fun c_1009 => ?_)
          · have h := g_ift c_1009 h
            refine g_iload hx hb hl 1 rfl dL_law_1014 ?_
            refine lv_if_ne (tgt := 1031) hx hb dL_law_1016 (by decide) (fun c_1016 => ?_) (fun c_1016 => ?_)
            · have h := g_ift c_1016 h
              exact sL_law_b1031 C hlT ih _ _ _ _ _ _ _ h hq1 _ _ _ _ _ hS (gls_sub hl [2, 3, 4, 5, 6] rfl)
            · have h := g_iff (fun z => z c_1016) h
              refine g_aload_n hx hb hl 5 rfl dL_law_1019 ?_
              refine lv_iconst (v := 0) hx hb dL_law_1020 (by decide) ?_
              refine g_laloadG hx hb hKn hS h dL_law_1021 (fun x1021 h => ?_)
              refine g_iload hx hb hl 0 rfl dL_law_1022 ?_
              refine lv_i2l (v := (Int32.toInt64 z998.1)) hx hb dL_law_1024 rfl ?_
              refine W.lcmp hx hb dL_law_1025 ?_
              refine lv_if_eq (tgt := 1031) hx hb dL_law_1026 (by decide) (fun c_1026 => ?_) (fun c_1026 => ?_)
              · have h := g_ift c_1026 h
                exact sL_law_b1031 C hlT ih _ _ _ _ _ _ _ h hq1 _ _ _ _ _ hS (gls_sub hl [2, 3, 4, 5, 6] rfl)
              · have h := g_iff c_1026 h
                refine lv_iconst (v := 0) hx hb dL_law_1029 (by decide) ?_
                exact g_lret hx hb hr hlk hRc hRs hnm hS h hq1 dL_law_1030
          · have h := g_iff c_1009 h
            refine lv_iconst (v := 0) hx hb dL_law_1012 (by decide) ?_
            exact g_lret hx hb hr hlk hRc hRs hnm hS h hq1 dL_law_1013
        · have h := hx986 _ e986
          exact g_no h
      have h := g_iff w40_17 h
      by_cases w40_18 : (x36 &&& 31) = 18
      · refine lv_tableIn (tgt := 1034) (off := 994) hx hb dL_law_40 (by rw [w40_18]; decide) (by rw [w40_18]; decide) (by rw [w40_18]; decide) (by decide) ?_
        have h := g_ift w40_18 h
        refine g_aload_n hx hb hl 1 rfl dL_law_1034 ?_
        refine g_aload_n hx hb hl 0 rfl dL_law_1035 ?_
        refine g_iload hx hb hl 4 rfl dL_law_1036 ?_
        refine lv_iconst (v := 1) hx hb dL_law_1038 (by decide) ?_
        refine lv_iadd hx hb dL_law_1039 ?_
        refine g_ialoadG hx hb hKn hS h dL_law_1040 (fun x1040 h => ?_)
        refine g_aload_n hx hb hl 3 rfl dL_law_1041 ?_
        obtain ⟨o1042, h1042, ha1042, hx1042⟩ := g_catE h
        refine g_callSh (n := 3) (av := [.inr (.inr v1), .inl x1040, .inr (.inr v3)]) (rs := []) hx hb hml hown hts hKn hRc hRs hS hl (sX0_least l E D hlT h1042) (lw_SW q1831 q1832 q112 q1833) ⟨by decide, by decide, by decide +kernel⟩ ⟨by rw [hRf]; omega, by rw [hRl]; omega⟩ rfl rfl (Nat.le_of_ble_eq_true rfl) dL_law_1042 (fun z1042 e1042 H locs cells slots hS => ?_) (fun k1042 a1042 G1042 e1042 n1 n2 nk nB H locs cells slots hS => ?_)
        · have h := ha1042 _ e1042
          refine g_istore (l1 := [(5, .inl z1042.1), (0, .inr (.inr v0)), (1, .inr (.inr v1)), (2, .inr (.inr v2)), (3, .inr (.inr v3)), (4, .inl v4)]) hx hb hl (by decide) rfl dL_law_1045 (fun ls hl => ?_)
          refine g_aload_n hx hb hl 3 rfl dL_law_1047 ?_
          refine g_aload_n hx hb hl 1 rfl dL_law_1048 ?_
          refine g_iload hx hb hl 5 rfl dL_law_1049 ?_
          refine lv_iconst (v := 1) hx hb dL_law_1051 (by decide) ?_
          refine lv_iadd hx hb dL_law_1052 ?_
          refine g_ialoadG hx hb hKn hS h dL_law_1053 (fun x1053 h => ?_)
          obtain ⟨b1054, hb1054, h⟩ := g_bnd h
          obtain ⟨hr1054, hk1054⟩ := g_chk hb1054
          obtain ⟨z1054, h1054, h⟩ := g_bnd h
          refine g_callV (n := 1) (b := b1054) (av := [.inl x1053]) (rs := []) hx hb hml hown hts hKn hRc hRs hS hl (sX4_least l E D h1054) (lw_V q2440 q2441 q2442 q135 q2443) ⟨rfl, by decide, by decide, by decide +kernel⟩ ⟨by rw [hRf]; omega, by rw [hRl]; omega⟩ (g_recv hKn hS hk1054 (by decide) (by decide)) rfl (by rw [hr1054]; rfl) (Nat.le_of_ble_eq_true rfl) dL_law_1054 (fun H locs cells slots hS => ?_)
          refine g_istore (l1 := [(6, .inl z1054.1), (5, .inl z1042.1), (0, .inr (.inr v0)), (1, .inr (.inr v1)), (2, .inr (.inr v2)), (3, .inr (.inr v3)), (4, .inl v4)]) hx hb hl (by decide) rfl dL_law_1057 (fun ls hl => ?_)
          refine g_aload_n hx hb hl 4 rfl dL_law_1059 ?_
          obtain ⟨b1060, hb1060, h⟩ := g_bnd h
          obtain ⟨hr1060, hk1060⟩ := g_chk hb1060
          obtain ⟨z1060, h1060, h⟩ := g_bnd h
          refine g_callV (n := 0) (b := b1060) (av := []) (rs := []) hx hb hml hown hts hKn hRc hRs hS hl (sX4_thrown l E D h1060) (lw_V q2076 q2077 q2078 q135 q2079) ⟨rfl, by decide, by decide, by decide +kernel⟩ ⟨by rw [hRf]; omega, by rw [hRl]; omega⟩ (g_recv hKn hS hk1060 (by decide) (by decide)) rfl (by rw [hr1060]; rfl) (Nat.le_of_ble_eq_true rfl) dL_law_1060 (fun H locs cells slots hS => ?_)
          refine g_iload hx hb hl 1 rfl dL_law_1063 ?_
          refine lv_icmp_eq (tgt := 1070) hx hb dL_law_1065 (by decide) (fun c_1065 => ?_) (fun c_1065 => ?_)
          · have h := g_ift c_1065 h
            refine g_iload hx hb hl 1 rfl dL_law_1070 ?_
            refine lv_if_ne (tgt := 1087) hx hb dL_law_1072 (by decide) (fun c_1072 => ?_) (fun c_1072 => ?_)
            · have h := g_ift c_1072 h
              exact sL_law_b1087 C hlT ih _ _ _ _ _ _ _ h hq1 _ _ _ _ _ hS (gls_sub hl [2, 3, 4, 5, 6] rfl)
            · have h := g_iff (fun z => z c_1072) h
              refine g_aload_n hx hb hl 5 rfl dL_law_1075 ?_
              refine lv_iconst (v := 0) hx hb dL_law_1076 (by decide) ?_
              refine g_laloadG hx hb hKn hS h dL_law_1077 (fun x1077 h => ?_)
              refine g_iload hx hb hl 0 rfl dL_law_1078 ?_
              refine lv_i2l (v := (Int32.toInt64 z1054.1)) hx hb dL_law_1080 rfl ?_
              refine W.lcmp hx hb dL_law_1081 ?_
              refine lv_if_eq (tgt := 1087) hx hb dL_law_1082 (by decide) (fun c_1082 => ?_) (fun c_1082 => ?_)
              · have h := g_ift c_1082 h
                exact sL_law_b1087 C hlT ih _ _ _ _ _ _ _ h hq1 _ _ _ _ _ hS (gls_sub hl [2, 3, 4, 5, 6] rfl)
              · have h := g_iff c_1082 h
                refine lv_iconst (v := 0) hx hb dL_law_1085 (by decide) ?_
                exact g_lret hx hb hr hlk hRc hRs hnm hS h hq1 dL_law_1086
          · have h := g_iff c_1065 h
            refine lv_iconst (v := 0) hx hb dL_law_1068 (by decide) ?_
            exact g_lret hx hb hr hlk hRc hRs hnm hS h hq1 dL_law_1069
        · have h := hx1042 _ e1042
          exact g_no h
      have h := g_iff w40_18 h
      refine g_tableD (tgt := 1090) hx hb dL_law_40 (by decide) [0, 1, 2, 3, 4, 5, 6, 7, 8, 9, 10, 11, 12, 13, 14, 15, 16, 17, 18] (by decide) (fun k hk => ?_) ?_
      · simp only [List.mem_cons, List.not_mem_nil, or_false] at hk
        rcases hk with rfl | rfl | rfl | rfl | rfl | rfl | rfl | rfl | rfl | rfl | rfl | rfl | rfl | rfl | rfl | rfl | rfl | rfl | rfl
        · exact w40_0
        · exact w40_1
        · exact w40_2
        · exact w40_3
        · exact w40_4
        · exact w40_5
        · exact w40_6
        · exact w40_7
        · exact w40_8
        · exact w40_9
        · exact w40_10
        · exact w40_11
        · exact w40_12
        · exact w40_13
        · exact w40_14
        · exact w40_15
        · exact w40_16
        · exact w40_17
        · exact w40_18
      exact sL_law_b1090 C hlT ih _ _ _ _ _ _ _ h hq1 _ _ _ _ _ hS (gls_sub hl [0, 1, 2, 3, 4] rfl)
theorem sL_law {p : Program} {l : Launch} {e : Env} {R : Room} {s : State} {m : MethodId} {args : Array Value} {below : List Frame} {meth : Method} {c : Code} {E : g_E} {D : g_D} (C : gCL p R s m args meth c cL_law 7 R_law "law" (some .boolean) 8192 100000 E D) (hlT : l.stackTraces = false) {v0 : Option Nat} {G : g_G} {q : Int32 × g_G} (h : fL_law E v0 G = some q) (hq1 : q.1 = 1) (hS : gSt E D G s.heap []) {ls : Array Slot} (hl : gls ls 7 [(0, .inr (.inr v0))]) : W p l e R s m args below meth c s.heap [] 0 0 (lw_Z below args s) (F0 m 0 ls []) := by
  obtain ⟨hx, hb, hml, hown, hts, hKn, hRc, hRs, hc1, hc2, hRf, hRl, hr, hlk, hnm⟩ := id C
  generalize hH0 : s.heap = H at hS ⊢
  unfold fL_law at h
  refine g_newG (k := 1) hx hb hown hts hKn hRc hRs hS h (by decide) (by decide) (hts _ q156) (hts _ q157) (hts _ q113) dL_law_0 (fun z0 h H locs cells slots hS => ?_)
  refine lv_dup hx hb dL_law_3 (by first | exact va_rf_cat _ | rfl | exact g_catA _) ?_
  obtain ⟨z4, h4, h⟩ := g_bnd h
  refine g_callI (n := 0) (av := []) (rs := [.inr (.inr (some z0.1))]) hx hb hml hown hts hKn hRc hRs hS hl (sX1_init l E D h4) (lw_meth q160) (hts _ q113) (hts _ q158) (hts _ q159) rfl ⟨by decide, by decide, by decide +kernel⟩ ⟨by rw [hRf]; omega, by rw [hRl]; omega⟩ rfl rfl (Nat.le_of_ble_eq_true rfl) dL_law_4 (fun H locs cells slots hS => ?_)
  refine g_astore_n (l1 := [(1, .inr (.inr (some z0.1))), (0, .inr (.inr v0))]) hx hb hl (by decide) rfl dL_law_7 (fun ls hl => ?_)
  refine g_newG (k := 4) hx hb hown hts hKn hRc hRs hS h (by decide) (by decide) (hts _ q1838) (hts _ q1839) (hts _ q135) dL_law_8 (fun z8 h H locs cells slots hS => ?_)
  refine lv_dup hx hb dL_law_11 (by first | exact va_rf_cat _ | rfl | exact g_catA _) ?_
  obtain ⟨z12, h12, h⟩ := g_bnd h
  refine g_callI (n := 0) (av := []) (rs := [.inr (.inr (some z8.1))]) hx hb hml hown hts hKn hRc hRs hS hl (sX4_init l E D h12) (lw_meth q1842) (hts _ q135) (hts _ q1840) (hts _ q1841) rfl ⟨by decide, by decide, by decide +kernel⟩ ⟨by rw [hRf]; omega, by rw [hRl]; omega⟩ rfl rfl (Nat.le_of_ble_eq_true rfl) dL_law_12 (fun H locs cells slots hS => ?_)
  refine g_astore_n (l1 := [(2, .inr (.inr (some z8.1))), (1, .inr (.inr (some z0.1))), (0, .inr (.inr v0))]) hx hb hl (by decide) rfl dL_law_15 (fun ls hl => ?_)
  refine lv_iconst (v := 1) hx hb dL_law_16 (by decide) ?_
  refine g_newaG (k := 110) (atype := .long) hx hb hKn hRc hRs hS h (by decide) rfl (hts _ q2445) dL_law_17 (fun z17 h H locs cells slots hS => ?_)
  refine g_astore_n (l1 := [(3, .inr (.inr (some z17.1))), (2, .inr (.inr (some z8.1))), (1, .inr (.inr (some z0.1))), (0, .inr (.inr v0))]) hx hb hl (by decide) rfl dL_law_19 (fun ls hl => ?_)
  refine lv_iconst (v := 0) hx hb dL_law_20 (by decide) ?_
  refine g_istore (l1 := [(4, .inl 0), (3, .inr (.inr (some z17.1))), (2, .inr (.inr (some z8.1))), (1, .inr (.inr (some z0.1))), (0, .inr (.inr v0))]) hx hb hl (by decide) rfl dL_law_21 (fun ls hl => ?_)
  exact sL_law_b23 C hlT gFU _ _ _ _ _ _ _ h hq1 _ _ _ _ _ hS (gls_sub hl [4, 3, 2, 1, 0] rfl)
