set_option maxRecDepth 100000
abbrev mL_law : MP := (cL_law, "MissCurvesLaw", 4, (some .boolean), 202, "law", [])
theorem kic_6 : Int32.ofInt (6) = (6 : Int32) := by decide
def L_law_c18 (l0 : Option Nat) (l1 : Option Nat) (l2 : Option Nat)  : Nat → Int32 → Hp → Option (Int32 × Hp)
  | 0, _, _ => none
  | n + 1, l3, σ =>
    (aN σ l0).bind fun v1 =>
    if (v1 - (6 : Int32)) < l3 then
      some ((1 : Int32), σ)
    else
      (aI 0 σ l0 l3).bind fun v4 =>
      if (v4 &&& (63 : Int32)) = (0 : Int32) then
        (aI 0 σ l0 (l3 + (1 : Int32))).bind fun v6 =>
        (aI 0 σ l0 (l3 + (2 : Int32))).bind fun v7 =>
        (cT σ l1 0).bind fun b9 =>
        (X0_of l1 v6 v7 σ).bind fun q8 =>
        (aI 0 q8.2 l0 (l3 + (1 : Int32))).bind fun v10 =>
        (aI 0 q8.2 l0 (l3 + (2 : Int32))).bind fun v11 =>
        (cT q8.2 l2 7).bind fun b13 =>
        (X7_of l2 v10 v11 q8.2).bind fun q12 =>
        if q8.1 = q12.1 then
          L_law_c18 l0 l1 l2 n (l3 + (6 : Int32)) q12.2
        else
          some ((0 : Int32), q12.2)
      else
      if (v4 &&& (63 : Int32)) = (1 : Int32) then
        (aI 0 σ l0 (l3 + (1 : Int32))).bind fun v17 =>
        (aI 0 σ l0 (l3 + (2 : Int32))).bind fun v18 =>
        (cT σ l1 0).bind fun b20 =>
        (X0_top l1 v17 v18 σ).bind fun q19 =>
        (aI 0 q19.2 l0 (l3 + (1 : Int32))).bind fun v21 =>
        (aI 0 q19.2 l0 (l3 + (2 : Int32))).bind fun v22 =>
        (cT q19.2 l2 7).bind fun b24 =>
        (X7_top l2 v21 v22 q19.2).bind fun q23 =>
        if q19.1 = q23.1 then
          L_law_c18 l0 l1 l2 n (l3 + (6 : Int32)) q23.2
        else
          some ((0 : Int32), q23.2)
      else
      if (v4 &&& (63 : Int32)) = (2 : Int32) then
        (aI 0 σ l0 (l3 + (1 : Int32))).bind fun v28 =>
        (aI 0 σ l0 (l3 + (2 : Int32))).bind fun v29 =>
        (aI 0 σ l0 (l3 + (3 : Int32))).bind fun v30 =>
        (cT σ l1 0).bind fun b32 =>
        (X0_key l1 v28 v29 v30 σ).bind fun q31 =>
        (aI 0 q31.2 l0 (l3 + (1 : Int32))).bind fun v33 =>
        (aI 0 q31.2 l0 (l3 + (2 : Int32))).bind fun v34 =>
        (aI 0 q31.2 l0 (l3 + (3 : Int32))).bind fun v35 =>
        (cT q31.2 l2 7).bind fun b37 =>
        (X7_key l2 v33 v34 v35 q31.2).bind fun q36 =>
        if q31.1 = q36.1 then
          L_law_c18 l0 l1 l2 n (l3 + (6 : Int32)) q36.2
        else
          some ((0 : Int32), q36.2)
      else
      if (v4 &&& (63 : Int32)) = (3 : Int32) then
        (aI 0 σ l0 (l3 + (1 : Int32))).bind fun v41 =>
        (aI 0 σ l0 (l3 + (2 : Int32))).bind fun v42 =>
        (cT σ l1 0).bind fun b44 =>
        (X0_terms l1 v41 v42 σ).bind fun q43 =>
        (aI 0 q43.2 l0 (l3 + (1 : Int32))).bind fun v45 =>
        (aI 0 q43.2 l0 (l3 + (2 : Int32))).bind fun v46 =>
        (cT q43.2 l2 7).bind fun b48 =>
        (X7_terms l2 v45 v46 q43.2).bind fun q47 =>
        if q43.1 = q47.1 then
          L_law_c18 l0 l1 l2 n (l3 + (6 : Int32)) q47.2
        else
          some ((0 : Int32), q47.2)
      else
      if (v4 &&& (63 : Int32)) = (4 : Int32) then
        (aI 0 σ l0 (l3 + (1 : Int32))).bind fun v52 =>
        (aI 0 σ l0 (l3 + (2 : Int32))).bind fun v53 =>
        (aI 0 σ l0 (l3 + (3 : Int32))).bind fun v54 =>
        (aI 0 σ l0 (l3 + (4 : Int32))).bind fun v55 =>
        (aI 0 σ l0 (l3 + (5 : Int32))).bind fun v56 =>
        (cT σ l1 0).bind fun b58 =>
        (X0_feed l1 v52 v53 v54 v55 v56 σ).bind fun q57 =>
        (aI 0 q57.2 l0 (l3 + (1 : Int32))).bind fun v59 =>
        (aI 0 q57.2 l0 (l3 + (2 : Int32))).bind fun v60 =>
        (aI 0 q57.2 l0 (l3 + (3 : Int32))).bind fun v61 =>
        (aI 0 q57.2 l0 (l3 + (4 : Int32))).bind fun v62 =>
        (aI 0 q57.2 l0 (l3 + (5 : Int32))).bind fun v63 =>
        (cT q57.2 l2 7).bind fun b65 =>
        (X7_feed l2 v59 v60 v61 v62 v63 q57.2).bind fun q64 =>
        if q57.1 = q64.1 then
          L_law_c18 l0 l1 l2 n (l3 + (6 : Int32)) q64.2
        else
          some ((0 : Int32), q64.2)
      else
      if (v4 &&& (63 : Int32)) = (5 : Int32) then
        (aI 0 σ l0 (l3 + (1 : Int32))).bind fun v69 =>
        (cT σ l1 0).bind fun b71 =>
        (X0_end l1 v69 σ).bind fun q70 =>
        (aI 0 q70.2 l0 (l3 + (1 : Int32))).bind fun v72 =>
        (cT q70.2 l2 7).bind fun b74 =>
        (X7_end l2 v72 q70.2).bind fun q73 =>
        if q70.1 = q73.1 then
          L_law_c18 l0 l1 l2 n (l3 + (6 : Int32)) q73.2
        else
          some ((0 : Int32), q73.2)
      else
      if (v4 &&& (63 : Int32)) = (6 : Int32) then
        (cT σ l1 0).bind fun b79 =>
        (X0_row l1  σ).bind fun q78 =>
        (cT q78.2 l2 7).bind fun b81 =>
        (X7_row l2  q78.2).bind fun q80 =>
        if q78.1 = q80.1 then
          L_law_c18 l0 l1 l2 n (l3 + (6 : Int32)) q80.2
        else
          some ((0 : Int32), q80.2)
      else
      if (v4 &&& (63 : Int32)) = (7 : Int32) then
        (cT σ l1 0).bind fun b86 =>
        (X0_blanks l1  σ).bind fun q85 =>
        (cT q85.2 l2 7).bind fun b88 =>
        (X7_blanks l2  q85.2).bind fun q87 =>
        if q85.1 = q87.1 then
          L_law_c18 l0 l1 l2 n (l3 + (6 : Int32)) q87.2
        else
          some ((0 : Int32), q87.2)
      else
      if (v4 &&& (63 : Int32)) = (8 : Int32) then
        (cT σ l1 0).bind fun b93 =>
        (X0_policy l1  σ).bind fun q92 =>
        (cT q92.2 l2 7).bind fun b95 =>
        (X7_policy l2  q92.2).bind fun q94 =>
        if q92.1 = q94.1 then
          L_law_c18 l0 l1 l2 n (l3 + (6 : Int32)) q94.2
        else
          some ((0 : Int32), q94.2)
      else
      if (v4 &&& (63 : Int32)) = (9 : Int32) then
        (cT σ l1 0).bind fun b100 =>
        (X0_law l1  σ).bind fun q99 =>
        (cT q99.2 l2 7).bind fun b102 =>
        (X7_law l2  q99.2).bind fun q101 =>
        if q99.1 = q101.1 then
          L_law_c18 l0 l1 l2 n (l3 + (6 : Int32)) q101.2
        else
          some ((0 : Int32), q101.2)
      else
      if (v4 &&& (63 : Int32)) = (10 : Int32) then
        (cT σ l1 0).bind fun b107 =>
        (X0_orders l1  σ).bind fun q106 =>
        (cT q106.2 l2 7).bind fun b109 =>
        (X7_orders l2  q106.2).bind fun q108 =>
        if q106.1 = q108.1 then
          L_law_c18 l0 l1 l2 n (l3 + (6 : Int32)) q108.2
        else
          some ((0 : Int32), q108.2)
      else
      if (v4 &&& (63 : Int32)) = (11 : Int32) then
        (cT σ l1 0).bind fun b114 =>
        (X0_fault l1  σ).bind fun q113 =>
        (cT q113.2 l2 7).bind fun b116 =>
        (X7_fault l2  q113.2).bind fun q115 =>
        if q113.1 = q115.1 then
          L_law_c18 l0 l1 l2 n (l3 + (6 : Int32)) q115.2
        else
          some ((0 : Int32), q115.2)
      else
      if (v4 &&& (63 : Int32)) = (12 : Int32) then
        (cT σ l1 0).bind fun b121 =>
        (X0_stopped l1  σ).bind fun q120 =>
        (cT q120.2 l2 7).bind fun b123 =>
        (X7_stopped l2  q120.2).bind fun q122 =>
        if q120.1 = q122.1 then
          L_law_c18 l0 l1 l2 n (l3 + (6 : Int32)) q122.2
        else
          some ((0 : Int32), q122.2)
      else
      if (v4 &&& (63 : Int32)) = (13 : Int32) then
        (aI 0 σ l0 (l3 + (1 : Int32))).bind fun v127 =>
        (cT σ l1 0).bind fun b129 =>
        (X0_force l1 v127 σ).bind fun q128 =>
        (aI 0 q128.2 l0 (l3 + (1 : Int32))).bind fun v130 =>
        (cT q128.2 l2 7).bind fun b132 =>
        (X7_force l2 v130 q128.2).bind fun q131 =>
        if q128.1 = q131.1 then
          L_law_c18 l0 l1 l2 n (l3 + (6 : Int32)) q131.2
        else
          some ((0 : Int32), q131.2)
      else
      if (v4 &&& (63 : Int32)) = (14 : Int32) then
        (aI 0 σ l0 (l3 + (1 : Int32))).bind fun v136 =>
        (aI 0 σ l0 (l3 + (2 : Int32))).bind fun v137 =>
        (cT σ l1 0).bind fun b139 =>
        (X0_read l1 v136 v137 σ).bind fun q138 =>
        (aI 0 q138.2 l0 (l3 + (1 : Int32))).bind fun v140 =>
        (aI 0 q138.2 l0 (l3 + (2 : Int32))).bind fun v141 =>
        (cT q138.2 l2 7).bind fun b143 =>
        (X7_read l2 v140 v141 q138.2).bind fun q142 =>
        if q138.1 = q142.1 then
          L_law_c18 l0 l1 l2 n (l3 + (6 : Int32)) q142.2
        else
          some ((0 : Int32), q142.2)
      else
      if (v4 &&& (63 : Int32)) = (15 : Int32) then
        (aI 0 σ l0 (l3 + (1 : Int32))).bind fun v147 =>
        (aI 0 σ l0 (l3 + (2 : Int32))).bind fun v148 =>
        (aI 0 σ l0 (l3 + (3 : Int32))).bind fun v149 =>
        (cT σ l1 0).bind fun b151 =>
        (X0_loop l1 v147 v148 v149 σ).bind fun q150 =>
        (aI 0 q150.2 l0 (l3 + (1 : Int32))).bind fun v152 =>
        (aI 0 q150.2 l0 (l3 + (2 : Int32))).bind fun v153 =>
        (aI 0 q150.2 l0 (l3 + (3 : Int32))).bind fun v154 =>
        (cT q150.2 l2 7).bind fun b156 =>
        (X7_loop l2 v152 v153 v154 q150.2).bind fun q155 =>
        if q150.1 = q155.1 then
          L_law_c18 l0 l1 l2 n (l3 + (6 : Int32)) q155.2
        else
          some ((0 : Int32), q155.2)
      else
      if (v4 &&& (63 : Int32)) = (16 : Int32) then
        (aI 0 σ l0 (l3 + (1 : Int32))).bind fun v160 =>
        (aI 0 σ l0 (l3 + (2 : Int32))).bind fun v161 =>
        (cT σ l1 0).bind fun b163 =>
        (X0_drop l1 v160 v161 σ).bind fun q162 =>
        (aI 0 q162.2 l0 (l3 + (1 : Int32))).bind fun v164 =>
        (aI 0 q162.2 l0 (l3 + (2 : Int32))).bind fun v165 =>
        (cT q162.2 l2 7).bind fun b167 =>
        (X7_drop l2 v164 v165 q162.2).bind fun q166 =>
        if q162.1 = q166.1 then
          L_law_c18 l0 l1 l2 n (l3 + (6 : Int32)) q166.2
        else
          some ((0 : Int32), q166.2)
      else
      if (v4 &&& (63 : Int32)) = (17 : Int32) then
        (cT σ l1 0).bind fun b172 =>
        (X0_pass l1  σ).bind fun q171 =>
        (cT q171.2 l2 7).bind fun b174 =>
        (X7_pass l2  q171.2).bind fun q173 =>
        if q171.1 = q173.1 then
          L_law_c18 l0 l1 l2 n (l3 + (6 : Int32)) q173.2
        else
          some ((0 : Int32), q173.2)
      else
      if (v4 &&& (63 : Int32)) = (18 : Int32) then
        (cT σ l1 0).bind fun b179 =>
        (X0_undo l1  σ).bind fun q178 =>
        (cT q178.2 l2 7).bind fun b181 =>
        (X7_undo l2  q178.2).bind fun q180 =>
        if q178.1 = q180.1 then
          L_law_c18 l0 l1 l2 n (l3 + (6 : Int32)) q180.2
        else
          some ((0 : Int32), q180.2)
      else
      if (v4 &&& (63 : Int32)) = (19 : Int32) then
        (aI 0 σ l0 (l3 + (1 : Int32))).bind fun v185 =>
        (aI 0 σ l0 (l3 + (2 : Int32))).bind fun v186 =>
        (cT σ l1 0).bind fun b188 =>
        (X0_misses l1 v185 v186 σ).bind fun q187 =>
        (aI 0 q187.2 l0 (l3 + (1 : Int32))).bind fun v189 =>
        (aI 0 q187.2 l0 (l3 + (2 : Int32))).bind fun v190 =>
        (cT q187.2 l2 7).bind fun b192 =>
        (X7_misses l2 v189 v190 q187.2).bind fun q191 =>
        if q187.1 = q191.1 then
          L_law_c18 l0 l1 l2 n (l3 + (6 : Int32)) q191.2
        else
          some ((0 : Int32), q191.2)
      else
      if (v4 &&& (63 : Int32)) = (20 : Int32) then
        (aI 0 σ l0 (l3 + (1 : Int32))).bind fun v196 =>
        (aI 0 σ l0 (l3 + (2 : Int32))).bind fun v197 =>
        (cT σ l1 0).bind fun b199 =>
        (X0_hull l1 v196 v197 σ).bind fun q198 =>
        (aI 0 q198.2 l0 (l3 + (1 : Int32))).bind fun v200 =>
        (aI 0 q198.2 l0 (l3 + (2 : Int32))).bind fun v201 =>
        (cT q198.2 l2 7).bind fun b203 =>
        (X7_hull l2 v200 v201 q198.2).bind fun q202 =>
        if (lg_cmp q198.1 q202.1) = 0 then
          L_law_c18 l0 l1 l2 n (l3 + (6 : Int32)) q202.2
        else
          some ((0 : Int32), q202.2)
      else
      if (v4 &&& (63 : Int32)) = (21 : Int32) then
        (aI 0 σ l0 (l3 + (1 : Int32))).bind fun v207 =>
        (aI 0 σ l0 (l3 + (2 : Int32))).bind fun v208 =>
        (cT σ l1 0).bind fun b210 =>
        (X0_bend l1 v207 v208 σ).bind fun q209 =>
        (aI 0 q209.2 l0 (l3 + (1 : Int32))).bind fun v211 =>
        (aI 0 q209.2 l0 (l3 + (2 : Int32))).bind fun v212 =>
        (cT q209.2 l2 7).bind fun b214 =>
        (X7_bend l2 v211 v212 q209.2).bind fun q213 =>
        if q209.1 = q213.1 then
          L_law_c18 l0 l1 l2 n (l3 + (6 : Int32)) q213.2
        else
          some ((0 : Int32), q213.2)
      else
      if (v4 &&& (63 : Int32)) = (22 : Int32) then
        (aI 0 σ l0 (l3 + (1 : Int32))).bind fun v218 =>
        (cT σ l1 0).bind fun b220 =>
        (X0_report l1 v218 σ).bind fun q219 =>
        (aI 0 q219.2 l0 (l3 + (1 : Int32))).bind fun v221 =>
        (cT q219.2 l2 7).bind fun b223 =>
        (X7_report l2 v221 q219.2).bind fun q222 =>
        if q219.1 = q222.1 then
          L_law_c18 l0 l1 l2 n (l3 + (6 : Int32)) q222.2
        else
          some ((0 : Int32), q222.2)
      else
      if (v4 &&& (63 : Int32)) = (23 : Int32) then
        (aI 0 σ l0 (l3 + (1 : Int32))).bind fun v227 =>
        (cT σ l1 0).bind fun b229 =>
        (X0_sign l1 v227 σ).bind fun q228 =>
        (aI 0 q228.2 l0 (l3 + (1 : Int32))).bind fun v230 =>
        (cT q228.2 l2 7).bind fun b232 =>
        (X7_sign l2 v230 q228.2).bind fun q231 =>
        if q228.1 = q231.1 then
          L_law_c18 l0 l1 l2 n (l3 + (6 : Int32)) q231.2
        else
          some ((0 : Int32), q231.2)
      else
      if (v4 &&& (63 : Int32)) = (24 : Int32) then
        (aI 0 σ l0 (l3 + (1 : Int32))).bind fun v236 =>
        (aI 0 σ l0 (l3 + (2 : Int32))).bind fun v237 =>
        (cT σ l1 0).bind fun b239 =>
        (X0_guess l1 v236 v237 σ).bind fun q238 =>
        (aI 0 q238.2 l0 (l3 + (1 : Int32))).bind fun v240 =>
        (aI 0 q238.2 l0 (l3 + (2 : Int32))).bind fun v241 =>
        (cT q238.2 l2 7).bind fun b243 =>
        (X7_guess l2 v240 v241 q238.2).bind fun q242 =>
        if q238.1 = q242.1 then
          L_law_c18 l0 l1 l2 n (l3 + (6 : Int32)) q242.2
        else
          some ((0 : Int32), q242.2)
      else
      if (v4 &&& (63 : Int32)) = (25 : Int32) then
        (aI 0 σ l0 (l3 + (1 : Int32))).bind fun v247 =>
        (aI 0 σ l0 (l3 + (2 : Int32))).bind fun v248 =>
        (cT σ l1 0).bind fun b250 =>
        (X0_salted l1 v247 v248 σ).bind fun q249 =>
        (aI 0 q249.2 l0 (l3 + (1 : Int32))).bind fun v251 =>
        (aI 0 q249.2 l0 (l3 + (2 : Int32))).bind fun v252 =>
        (cT q249.2 l2 7).bind fun b254 =>
        (X7_salted l2 v251 v252 q249.2).bind fun q253 =>
        if q249.1 = q253.1 then
          L_law_c18 l0 l1 l2 n (l3 + (6 : Int32)) q253.2
        else
          some ((0 : Int32), q253.2)
      else
      if (v4 &&& (63 : Int32)) = (26 : Int32) then
        (aI 0 σ l0 (l3 + (1 : Int32))).bind fun v258 =>
        (aI 0 σ l0 (l3 + (2 : Int32))).bind fun v259 =>
        (cT σ l1 0).bind fun b261 =>
        (X0_share l1 v258 v259 σ).bind fun q260 =>
        (aI 0 q260.2 l0 (l3 + (1 : Int32))).bind fun v262 =>
        (aI 0 q260.2 l0 (l3 + (2 : Int32))).bind fun v263 =>
        (cT q260.2 l2 7).bind fun b265 =>
        (X7_share l2 v262 v263 q260.2).bind fun q264 =>
        if q260.1 = q264.1 then
          L_law_c18 l0 l1 l2 n (l3 + (6 : Int32)) q264.2
        else
          some ((0 : Int32), q264.2)
      else
      if (v4 &&& (63 : Int32)) = (27 : Int32) then
        (aI 0 σ l0 (l3 + (1 : Int32))).bind fun v269 =>
        (aI 0 σ l0 (l3 + (2 : Int32))).bind fun v270 =>
        (cT σ l1 0).bind fun b272 =>
        (X0_best l1 v269 v270 σ).bind fun q271 =>
        (aI 0 q271.2 l0 (l3 + (1 : Int32))).bind fun v273 =>
        (aI 0 q271.2 l0 (l3 + (2 : Int32))).bind fun v274 =>
        (cT q271.2 l2 7).bind fun b276 =>
        (X7_best l2 v273 v274 q271.2).bind fun q275 =>
        if q271.1 = q275.1 then
          L_law_c18 l0 l1 l2 n (l3 + (6 : Int32)) q275.2
        else
          some ((0 : Int32), q275.2)
      else
      if (v4 &&& (63 : Int32)) = (28 : Int32) then
        (aI 0 σ l0 (l3 + (1 : Int32))).bind fun v280 =>
        (aI 0 σ l0 (l3 + (2 : Int32))).bind fun v281 =>
        (cT σ l1 0).bind fun b283 =>
        (X0_replay l1 v280 v281 σ).bind fun q282 =>
        (aI 0 q282.2 l0 (l3 + (1 : Int32))).bind fun v284 =>
        (aI 0 q282.2 l0 (l3 + (2 : Int32))).bind fun v285 =>
        (cT q282.2 l2 7).bind fun b287 =>
        (X7_replay l2 v284 v285 q282.2).bind fun q286 =>
        if q282.1 = q286.1 then
          L_law_c18 l0 l1 l2 n (l3 + (6 : Int32)) q286.2
        else
          some ((0 : Int32), q286.2)
      else
      if (v4 &&& (63 : Int32)) = (29 : Int32) then
        (aI 0 σ l0 (l3 + (1 : Int32))).bind fun v291 =>
        (cT σ l1 0).bind fun b293 =>
        (X0_odd l1 v291 σ).bind fun q292 =>
        (aI 0 q292.2 l0 (l3 + (1 : Int32))).bind fun v294 =>
        (cT q292.2 l2 7).bind fun b296 =>
        (X7_odd l2 v294 q292.2).bind fun q295 =>
        if q292.1 = q295.1 then
          L_law_c18 l0 l1 l2 n (l3 + (6 : Int32)) q295.2
        else
          some ((0 : Int32), q295.2)
      else
      if (v4 &&& (63 : Int32)) = (30 : Int32) then
        (aI 0 σ l0 (l3 + (1 : Int32))).bind fun v300 =>
        (cT σ l1 0).bind fun b302 =>
        (X0_spilt l1 v300 σ).bind fun q301 =>
        (aI 0 q301.2 l0 (l3 + (1 : Int32))).bind fun v303 =>
        (cT q301.2 l2 7).bind fun b305 =>
        (X7_spilt l2 v303 q301.2).bind fun q304 =>
        if q301.1 = q304.1 then
          L_law_c18 l0 l1 l2 n (l3 + (6 : Int32)) q304.2
        else
          some ((0 : Int32), q304.2)
      else
      if (v4 &&& (63 : Int32)) = (31 : Int32) then
        (aI 0 σ l0 (l3 + (1 : Int32))).bind fun v309 =>
        (aI 0 σ l0 (l3 + (2 : Int32))).bind fun v310 =>
        (cT σ l1 0).bind fun b312 =>
        (X0_seen l1 v309 v310 σ).bind fun q311 =>
        (aI 0 q311.2 l0 (l3 + (1 : Int32))).bind fun v313 =>
        (aI 0 q311.2 l0 (l3 + (2 : Int32))).bind fun v314 =>
        (cT q311.2 l2 7).bind fun b316 =>
        (X7_seen l2 v313 v314 q311.2).bind fun q315 =>
        if q311.1 = q315.1 then
          L_law_c18 l0 l1 l2 n (l3 + (6 : Int32)) q315.2
        else
          some ((0 : Int32), q315.2)
      else
      if (v4 &&& (63 : Int32)) = (32 : Int32) then
        (cT σ l1 0).bind fun b321 =>
        (X0_forget l1  σ).bind fun q320 =>
        (cT q320.2 l2 7).bind fun b323 =>
        (X7_forget l2  q320.2).bind fun q322 =>
        if q320.1 = q322.1 then
          L_law_c18 l0 l1 l2 n (l3 + (6 : Int32)) q322.2
        else
          some ((0 : Int32), q322.2)
      else
      if (v4 &&& (63 : Int32)) = (33 : Int32) then
        (cT σ l1 0).bind fun b328 =>
        (X0_canBe l1  σ).bind fun q327 =>
        (cT q327.2 l2 7).bind fun b330 =>
        (X7_canBe l2  q327.2).bind fun q329 =>
        if q327.1 = q329.1 then
          L_law_c18 l0 l1 l2 n (l3 + (6 : Int32)) q329.2
        else
          some ((0 : Int32), q329.2)
      else
      if (v4 &&& (63 : Int32)) = (34 : Int32) then
        (aI 0 σ l0 (l3 + (1 : Int32))).bind fun v334 =>
        (cT σ l1 0).bind fun b336 =>
        (X0_ask l1 v334 σ).bind fun q335 =>
        (aI 0 q335.2 l0 (l3 + (1 : Int32))).bind fun v337 =>
        (cT q335.2 l2 7).bind fun b339 =>
        (X7_ask l2 v337 q335.2).bind fun q338 =>
        if q335.1 = q338.1 then
          L_law_c18 l0 l1 l2 n (l3 + (6 : Int32)) q338.2
        else
          some ((0 : Int32), q338.2)
      else
      if (v4 &&& (63 : Int32)) = (35 : Int32) then
        (aI 0 σ l0 (l3 + (1 : Int32))).bind fun v343 =>
        (aI 0 σ l0 (l3 + (2 : Int32))).bind fun v344 =>
        (cT σ l1 0).bind fun b346 =>
        (X0_few l1 v343 v344 σ).bind fun q345 =>
        (aI 0 q345.2 l0 (l3 + (1 : Int32))).bind fun v347 =>
        (aI 0 q345.2 l0 (l3 + (2 : Int32))).bind fun v348 =>
        (cT q345.2 l2 7).bind fun b350 =>
        (X7_few l2 v347 v348 q345.2).bind fun q349 =>
        if (lg_cmp q345.1 q349.1) = 0 then
          L_law_c18 l0 l1 l2 n (l3 + (6 : Int32)) q349.2
        else
          some ((0 : Int32), q349.2)
      else
      if (v4 &&& (63 : Int32)) = (36 : Int32) then
        (aI 0 σ l0 (l3 + (1 : Int32))).bind fun v354 =>
        (aI 0 σ l0 (l3 + (2 : Int32))).bind fun v355 =>
        (aI 0 σ l0 (l3 + (3 : Int32))).bind fun v356 =>
        (cT σ l1 0).bind fun b358 =>
        (X0_compare l1 v354 v355 v356 σ).bind fun q357 =>
        (aI 0 q357.2 l0 (l3 + (1 : Int32))).bind fun v359 =>
        (aI 0 q357.2 l0 (l3 + (2 : Int32))).bind fun v360 =>
        (aI 0 q357.2 l0 (l3 + (3 : Int32))).bind fun v361 =>
        (cT q357.2 l2 7).bind fun b363 =>
        (X7_compare l2 v359 v360 v361 q357.2).bind fun q362 =>
        if q357.1 = q362.1 then
          L_law_c18 l0 l1 l2 n (l3 + (6 : Int32)) q362.2
        else
          some ((0 : Int32), q362.2)
      else
      if (v4 &&& (63 : Int32)) = (37 : Int32) then
        (aI 0 σ l0 (l3 + (1 : Int32))).bind fun v367 =>
        (aI 0 σ l0 (l3 + (2 : Int32))).bind fun v368 =>
        (cT σ l1 0).bind fun b370 =>
        (X0_months l1 v367 v368 σ).bind fun q369 =>
        (aI 0 q369.2 l0 (l3 + (1 : Int32))).bind fun v371 =>
        (aI 0 q369.2 l0 (l3 + (2 : Int32))).bind fun v372 =>
        (cT q369.2 l2 7).bind fun b374 =>
        (X7_months l2 v371 v372 q369.2).bind fun q373 =>
        if q369.1 = q373.1 then
          L_law_c18 l0 l1 l2 n (l3 + (6 : Int32)) q373.2
        else
          some ((0 : Int32), q373.2)
      else
      if (v4 &&& (63 : Int32)) = (38 : Int32) then
        (aI 0 σ l0 (l3 + (1 : Int32))).bind fun v378 =>
        (aI 0 σ l0 (l3 + (2 : Int32))).bind fun v379 =>
        (cT σ l1 0).bind fun b381 =>
        (X0_drawn l1 v378 v379 σ).bind fun q380 =>
        (aI 0 q380.2 l0 (l3 + (1 : Int32))).bind fun v382 =>
        (aI 0 q380.2 l0 (l3 + (2 : Int32))).bind fun v383 =>
        (cT q380.2 l2 7).bind fun b385 =>
        (X7_drawn l2 v382 v383 q380.2).bind fun q384 =>
        if q380.1 = q384.1 then
          L_law_c18 l0 l1 l2 n (l3 + (6 : Int32)) q384.2
        else
          some ((0 : Int32), q384.2)
      else
      if (v4 &&& (63 : Int32)) = (39 : Int32) then
        (aI 0 σ l0 (l3 + (1 : Int32))).bind fun v389 =>
        (cT σ l1 0).bind fun b391 =>
        (X0_image l1 v389 σ).bind fun q390 =>
        (aI 0 q390.2 l0 (l3 + (1 : Int32))).bind fun v392 =>
        (cT q390.2 l2 7).bind fun b394 =>
        (X7_image l2 v392 q390.2).bind fun q393 =>
        if q390.1 = q393.1 then
          L_law_c18 l0 l1 l2 n (l3 + (6 : Int32)) q393.2
        else
          some ((0 : Int32), q393.2)
      else
      if (v4 &&& (63 : Int32)) = (40 : Int32) then
        (aI 0 σ l0 (l3 + (1 : Int32))).bind fun v398 =>
        (cT σ l1 0).bind fun b400 =>
        (X0_back l1 v398 σ).bind fun q399 =>
        (aI 0 q399.2 l0 (l3 + (1 : Int32))).bind fun v401 =>
        (cT q399.2 l2 7).bind fun b403 =>
        (X7_back l2 v401 q399.2).bind fun q402 =>
        if q399.1 = q402.1 then
          L_law_c18 l0 l1 l2 n (l3 + (6 : Int32)) q402.2
        else
          some ((0 : Int32), q402.2)
      else
      if (v4 &&& (63 : Int32)) = (41 : Int32) then
        (aI 0 σ l0 (l3 + (1 : Int32))).bind fun v407 =>
        (cT σ l1 0).bind fun b409 =>
        (X0_count l1 v407 σ).bind fun q408 =>
        (aI 0 q408.2 l0 (l3 + (1 : Int32))).bind fun v410 =>
        (cT q408.2 l2 7).bind fun b412 =>
        (X7_count l2 v410 q408.2).bind fun q411 =>
        if q408.1 = q411.1 then
          L_law_c18 l0 l1 l2 n (l3 + (6 : Int32)) q411.2
        else
          some ((0 : Int32), q411.2)
      else
      if (v4 &&& (63 : Int32)) = (42 : Int32) then
        (cT σ l1 0).bind fun b417 =>
        (X0_status l1  σ).bind fun q416 =>
        (cT q416.2 l2 7).bind fun b419 =>
        (X7_status l2  q416.2).bind fun q418 =>
        if q416.1 = q418.1 then
          L_law_c18 l0 l1 l2 n (l3 + (6 : Int32)) q418.2
        else
          some ((0 : Int32), q418.2)
      else
      L_law_c18 l0 l1 l2 n (l3 + (6 : Int32)) σ
set_option maxHeartbeats 4000000 in
theorem jL_law_c18 {γ : GP} {σ0 : Hp} {q : (Int32 × Hp)} (hγ : GOK γ) (l0 : Option Nat) (l1 : Option Nat) (l2 : Option Nat)  : ∀ (n : Nat) (l3 : Int32) (σ : Hp), L_law_c18 l0 l1 l2 n l3 σ = some q → J γ mL_law (σ0, .inr (some (.int q.1)), q.2) σ 18 [(0, 1, va_rf l0), (1, 1, va_rf l1), (2, 1, va_rf l2), (3, 1, .int l3)] [] := by
  intro n
  induction n with
  | zero => intro l3 σ h; exact nomatch (show none = some q from h)
  | succ n ih =>
    intro l3 σ h
    rw [L_law_c18] at h
    refine J_iload_n (i := 3) 3 19 dL_law_18 rfl rfl rfl ?_
    refine J_aload_n (i := 0) 0 20 dL_law_19 rfl rfl rfl ?_
    obtain ⟨v1, hv1, h⟩ := some_of_bind h
    refine J_alen 21 dL_law_20 rfl hv1 ?_
    refine J_bipush 23 dL_law_21 rfl (6 : Int32) kbp_6 ?_
    refine J_isub 24 dL_law_23 rfl ?_
    refine J_icmp_gt 1367 27 dL_law_24 (by decide) rfl (fun c2 => ?_) (fun c2 => ?_)
    · rw [if_pos c2] at h
      refine J_ic 1368 dL_law_1367 rfl (1 : Int32) kic_1 ?_
      exact J_zret rfl (by decide) dL_law_1368 (retI h)
    · rw [if_neg c2] at h
      refine J_aload_n (i := 0) 0 28 dL_law_27 rfl rfl rfl ?_
      refine J_iload_n (i := 3) 3 29 dL_law_28 rfl rfl rfl ?_
      obtain ⟨v4, hv4, h⟩ := some_of_bind h
      refine J_iald 30 dL_law_29 rfl hv4 ?_
      refine J_bipush 32 dL_law_30 rfl (63 : Int32) kbp_63 ?_
      refine J_iand 33 dL_law_32 rfl ?_
      rcases Classical.em ((v4 &&& (63 : Int32)) = (0 : Int32)) with c5 | c5
      · rw [if_pos c5] at h
        refine J_tsC c5 220 dL_law_33 (by decide) (by decide) rfl (by decide) ?_
        refine J_aload_n (i := 1) 1 221 dL_law_220 rfl rfl rfl ?_
        refine J_aload_n (i := 0) 0 222 dL_law_221 rfl rfl rfl ?_
        refine J_iload_n (i := 3) 3 223 dL_law_222 rfl rfl rfl ?_
        refine J_ic 224 dL_law_223 rfl (1 : Int32) kic_1 ?_
        refine J_iadd 225 dL_law_224 rfl ?_
        obtain ⟨v6, hv6, h⟩ := some_of_bind h
        refine J_iald 226 dL_law_225 rfl hv6 ?_
        refine J_aload_n (i := 0) 0 227 dL_law_226 rfl rfl rfl ?_
        refine J_iload_n (i := 3) 3 228 dL_law_227 rfl rfl rfl ?_
        refine J_ic 229 dL_law_228 rfl (2 : Int32) kic_2 ?_
        refine J_iadd 230 dL_law_229 rfl ?_
        obtain ⟨v7, hv7, h⟩ := some_of_bind h
        refine J_iald 231 dL_law_230 rfl hv7 ?_
        obtain ⟨b9, hb9, h⟩ := some_of_bind h
        obtain ⟨q8, hq8, h⟩ := some_of_bind h
        refine J_cVi 234 dL_law_231 rfl ykX0_of (Or.inl q487) q488 q489 (Nat.le_of_ble_eq_true rfl) cs_nil (by decide) [.int v6, .int v7] hb9 (by decide) rfl rfl rfl (sX0_of hγ l1 v6 v7 σ q8 hq8) ?_
        refine J_aload_n (i := 2) 2 235 dL_law_234 rfl rfl rfl ?_
        refine J_aload_n (i := 0) 0 236 dL_law_235 rfl rfl rfl ?_
        refine J_iload_n (i := 3) 3 237 dL_law_236 rfl rfl rfl ?_
        refine J_ic 238 dL_law_237 rfl (1 : Int32) kic_1 ?_
        refine J_iadd 239 dL_law_238 rfl ?_
        obtain ⟨v10, hv10, h⟩ := some_of_bind h
        refine J_iald 240 dL_law_239 rfl hv10 ?_
        refine J_aload_n (i := 0) 0 241 dL_law_240 rfl rfl rfl ?_
        refine J_iload_n (i := 3) 3 242 dL_law_241 rfl rfl rfl ?_
        refine J_ic 243 dL_law_242 rfl (2 : Int32) kic_2 ?_
        refine J_iadd 244 dL_law_243 rfl ?_
        obtain ⟨v11, hv11, h⟩ := some_of_bind h
        refine J_iald 245 dL_law_244 rfl hv11 ?_
        obtain ⟨b13, hb13, h⟩ := some_of_bind h
        obtain ⟨q12, hq12, h⟩ := some_of_bind h
        refine J_cVi 248 dL_law_245 rfl ykX7_of (Or.inl q2426) q2427 q2428 (Nat.le_of_ble_eq_true rfl) (cs_int cs_nil) (by decide) [.int v10, .int v11] hb13 (by decide) rfl rfl rfl (sX7_of hγ l2 v10 v11 q8.2 q12 hq12) ?_
        refine J_icmp_eq 1361 251 dL_law_248 (by decide) rfl (fun c14 => ?_) (fun c14 => ?_)
        · rw [if_pos c14] at h
          refine J_iinc (i := 3) (v := l3 + (6 : Int32)) 3 1364 [(3, 1, .int (l3 + (6 : Int32))), (0, 1, va_rf l0), (1, 1, va_rf l1), (2, 1, va_rf l2)] dL_law_1361 rfl rfl (Nat.le_of_ble_eq_true rfl) (by rw [kic_6]) rfl ?_
          refine J_goto 18 dL_law_1364 (by decide) ?_
          refine J.pick [1, 2, 3, 0] rfl ?_
          exact ih (l3 + (6 : Int32)) q12.2 h
        · rw [if_neg c14] at h
          refine J_ic 252 dL_law_251 rfl (0 : Int32) kic_0 ?_
          exact J_zret rfl (by decide) dL_law_252 (retI h)
      · rw [if_neg c5] at h
        rcases Classical.em ((v4 &&& (63 : Int32)) = (1 : Int32)) with c16 | c16
        · rw [if_pos c16] at h
          refine J_tsC c16 253 dL_law_33 (by decide) (by decide) rfl (by decide) ?_
          refine J_aload_n (i := 1) 1 254 dL_law_253 rfl rfl rfl ?_
          refine J_aload_n (i := 0) 0 255 dL_law_254 rfl rfl rfl ?_
          refine J_iload_n (i := 3) 3 256 dL_law_255 rfl rfl rfl ?_
          refine J_ic 257 dL_law_256 rfl (1 : Int32) kic_1 ?_
          refine J_iadd 258 dL_law_257 rfl ?_
          obtain ⟨v17, hv17, h⟩ := some_of_bind h
          refine J_iald 259 dL_law_258 rfl hv17 ?_
          refine J_aload_n (i := 0) 0 260 dL_law_259 rfl rfl rfl ?_
          refine J_iload_n (i := 3) 3 261 dL_law_260 rfl rfl rfl ?_
          refine J_ic 262 dL_law_261 rfl (2 : Int32) kic_2 ?_
          refine J_iadd 263 dL_law_262 rfl ?_
          obtain ⟨v18, hv18, h⟩ := some_of_bind h
          refine J_iald 264 dL_law_263 rfl hv18 ?_
          obtain ⟨b20, hb20, h⟩ := some_of_bind h
          obtain ⟨q19, hq19, h⟩ := some_of_bind h
          refine J_cVi 267 dL_law_264 rfl ykX0_top (Or.inl q505) q506 q507 (Nat.le_of_ble_eq_true rfl) cs_nil (by decide) [.int v17, .int v18] hb20 (by decide) rfl rfl rfl (sX0_top hγ l1 v17 v18 σ q19 hq19) ?_
          refine J_aload_n (i := 2) 2 268 dL_law_267 rfl rfl rfl ?_
          refine J_aload_n (i := 0) 0 269 dL_law_268 rfl rfl rfl ?_
          refine J_iload_n (i := 3) 3 270 dL_law_269 rfl rfl rfl ?_
          refine J_ic 271 dL_law_270 rfl (1 : Int32) kic_1 ?_
          refine J_iadd 272 dL_law_271 rfl ?_
          obtain ⟨v21, hv21, h⟩ := some_of_bind h
          refine J_iald 273 dL_law_272 rfl hv21 ?_
          refine J_aload_n (i := 0) 0 274 dL_law_273 rfl rfl rfl ?_
          refine J_iload_n (i := 3) 3 275 dL_law_274 rfl rfl rfl ?_
          refine J_ic 276 dL_law_275 rfl (2 : Int32) kic_2 ?_
          refine J_iadd 277 dL_law_276 rfl ?_
          obtain ⟨v22, hv22, h⟩ := some_of_bind h
          refine J_iald 278 dL_law_277 rfl hv22 ?_
          obtain ⟨b24, hb24, h⟩ := some_of_bind h
          obtain ⟨q23, hq23, h⟩ := some_of_bind h
          refine J_cVi 281 dL_law_278 rfl ykX7_top (Or.inl q2433) q2434 q2435 (Nat.le_of_ble_eq_true rfl) (cs_int cs_nil) (by decide) [.int v21, .int v22] hb24 (by decide) rfl rfl rfl (sX7_top hγ l2 v21 v22 q19.2 q23 hq23) ?_
          refine J_icmp_eq 1361 284 dL_law_281 (by decide) rfl (fun c25 => ?_) (fun c25 => ?_)
          · rw [if_pos c25] at h
            refine J_iinc (i := 3) (v := l3 + (6 : Int32)) 3 1364 [(3, 1, .int (l3 + (6 : Int32))), (0, 1, va_rf l0), (1, 1, va_rf l1), (2, 1, va_rf l2)] dL_law_1361 rfl rfl (Nat.le_of_ble_eq_true rfl) (by rw [kic_6]) rfl ?_
            refine J_goto 18 dL_law_1364 (by decide) ?_
            refine J.pick [1, 2, 3, 0] rfl ?_
            exact ih (l3 + (6 : Int32)) q23.2 h
          · rw [if_neg c25] at h
            refine J_ic 285 dL_law_284 rfl (0 : Int32) kic_0 ?_
            exact J_zret rfl (by decide) dL_law_285 (retI h)
        · rw [if_neg c16] at h
          rcases Classical.em ((v4 &&& (63 : Int32)) = (2 : Int32)) with c27 | c27
          · rw [if_pos c27] at h
            refine J_tsC c27 286 dL_law_33 (by decide) (by decide) rfl (by decide) ?_
            refine J_aload_n (i := 1) 1 287 dL_law_286 rfl rfl rfl ?_
            refine J_aload_n (i := 0) 0 288 dL_law_287 rfl rfl rfl ?_
            refine J_iload_n (i := 3) 3 289 dL_law_288 rfl rfl rfl ?_
            refine J_ic 290 dL_law_289 rfl (1 : Int32) kic_1 ?_
            refine J_iadd 291 dL_law_290 rfl ?_
            obtain ⟨v28, hv28, h⟩ := some_of_bind h
            refine J_iald 292 dL_law_291 rfl hv28 ?_
            refine J_aload_n (i := 0) 0 293 dL_law_292 rfl rfl rfl ?_
            refine J_iload_n (i := 3) 3 294 dL_law_293 rfl rfl rfl ?_
            refine J_ic 295 dL_law_294 rfl (2 : Int32) kic_2 ?_
            refine J_iadd 296 dL_law_295 rfl ?_
            obtain ⟨v29, hv29, h⟩ := some_of_bind h
            refine J_iald 297 dL_law_296 rfl hv29 ?_
            refine J_aload_n (i := 0) 0 298 dL_law_297 rfl rfl rfl ?_
            refine J_iload_n (i := 3) 3 299 dL_law_298 rfl rfl rfl ?_
            refine J_ic 300 dL_law_299 rfl (3 : Int32) kic_3 ?_
            refine J_iadd 301 dL_law_300 rfl ?_
            obtain ⟨v30, hv30, h⟩ := some_of_bind h
            refine J_iald 302 dL_law_301 rfl hv30 ?_
            obtain ⟨b32, hb32, h⟩ := some_of_bind h
            obtain ⟨q31, hq31, h⟩ := some_of_bind h
            refine J_cVi 305 dL_law_302 rfl ykX0_key (Or.inl q509) q510 q511 (Nat.le_of_ble_eq_true rfl) cs_nil (by decide) [.int v28, .int v29, .int v30] hb32 (by decide) rfl rfl rfl (sX0_key hγ l1 v28 v29 v30 σ q31 hq31) ?_
            refine J_aload_n (i := 2) 2 306 dL_law_305 rfl rfl rfl ?_
            refine J_aload_n (i := 0) 0 307 dL_law_306 rfl rfl rfl ?_
            refine J_iload_n (i := 3) 3 308 dL_law_307 rfl rfl rfl ?_
            refine J_ic 309 dL_law_308 rfl (1 : Int32) kic_1 ?_
            refine J_iadd 310 dL_law_309 rfl ?_
            obtain ⟨v33, hv33, h⟩ := some_of_bind h
            refine J_iald 311 dL_law_310 rfl hv33 ?_
            refine J_aload_n (i := 0) 0 312 dL_law_311 rfl rfl rfl ?_
            refine J_iload_n (i := 3) 3 313 dL_law_312 rfl rfl rfl ?_
            refine J_ic 314 dL_law_313 rfl (2 : Int32) kic_2 ?_
            refine J_iadd 315 dL_law_314 rfl ?_
            obtain ⟨v34, hv34, h⟩ := some_of_bind h
            refine J_iald 316 dL_law_315 rfl hv34 ?_
            refine J_aload_n (i := 0) 0 317 dL_law_316 rfl rfl rfl ?_
            refine J_iload_n (i := 3) 3 318 dL_law_317 rfl rfl rfl ?_
            refine J_ic 319 dL_law_318 rfl (3 : Int32) kic_3 ?_
            refine J_iadd 320 dL_law_319 rfl ?_
            obtain ⟨v35, hv35, h⟩ := some_of_bind h
            refine J_iald 321 dL_law_320 rfl hv35 ?_
            obtain ⟨b37, hb37, h⟩ := some_of_bind h
            obtain ⟨q36, hq36, h⟩ := some_of_bind h
            refine J_cVi 324 dL_law_321 rfl ykX7_key (Or.inl q2437) q2438 q2439 (Nat.le_of_ble_eq_true rfl) (cs_int cs_nil) (by decide) [.int v33, .int v34, .int v35] hb37 (by decide) rfl rfl rfl (sX7_key hγ l2 v33 v34 v35 q31.2 q36 hq36) ?_
            refine J_icmp_eq 1361 327 dL_law_324 (by decide) rfl (fun c38 => ?_) (fun c38 => ?_)
            · rw [if_pos c38] at h
              refine J_iinc (i := 3) (v := l3 + (6 : Int32)) 3 1364 [(3, 1, .int (l3 + (6 : Int32))), (0, 1, va_rf l0), (1, 1, va_rf l1), (2, 1, va_rf l2)] dL_law_1361 rfl rfl (Nat.le_of_ble_eq_true rfl) (by rw [kic_6]) rfl ?_
              refine J_goto 18 dL_law_1364 (by decide) ?_
              refine J.pick [1, 2, 3, 0] rfl ?_
              exact ih (l3 + (6 : Int32)) q36.2 h
            · rw [if_neg c38] at h
              refine J_ic 328 dL_law_327 rfl (0 : Int32) kic_0 ?_
              exact J_zret rfl (by decide) dL_law_328 (retI h)
          · rw [if_neg c27] at h
            rcases Classical.em ((v4 &&& (63 : Int32)) = (3 : Int32)) with c40 | c40
            · rw [if_pos c40] at h
              refine J_tsC c40 329 dL_law_33 (by decide) (by decide) rfl (by decide) ?_
              refine J_aload_n (i := 1) 1 330 dL_law_329 rfl rfl rfl ?_
              refine J_aload_n (i := 0) 0 331 dL_law_330 rfl rfl rfl ?_
              refine J_iload_n (i := 3) 3 332 dL_law_331 rfl rfl rfl ?_
              refine J_ic 333 dL_law_332 rfl (1 : Int32) kic_1 ?_
              refine J_iadd 334 dL_law_333 rfl ?_
              obtain ⟨v41, hv41, h⟩ := some_of_bind h
              refine J_iald 335 dL_law_334 rfl hv41 ?_
              refine J_aload_n (i := 0) 0 336 dL_law_335 rfl rfl rfl ?_
              refine J_iload_n (i := 3) 3 337 dL_law_336 rfl rfl rfl ?_
              refine J_ic 338 dL_law_337 rfl (2 : Int32) kic_2 ?_
              refine J_iadd 339 dL_law_338 rfl ?_
              obtain ⟨v42, hv42, h⟩ := some_of_bind h
              refine J_iald 340 dL_law_339 rfl hv42 ?_
              obtain ⟨b44, hb44, h⟩ := some_of_bind h
              obtain ⟨q43, hq43, h⟩ := some_of_bind h
              refine J_cVi 343 dL_law_340 rfl ykX0_terms (Or.inl q621) q622 q623 (Nat.le_of_ble_eq_true rfl) cs_nil (by decide) [.int v41, .int v42] hb44 (by decide) rfl rfl rfl (sX0_terms hγ l1 v41 v42 σ q43 hq43) ?_
              refine J_aload_n (i := 2) 2 344 dL_law_343 rfl rfl rfl ?_
              refine J_aload_n (i := 0) 0 345 dL_law_344 rfl rfl rfl ?_
              refine J_iload_n (i := 3) 3 346 dL_law_345 rfl rfl rfl ?_
              refine J_ic 347 dL_law_346 rfl (1 : Int32) kic_1 ?_
              refine J_iadd 348 dL_law_347 rfl ?_
              obtain ⟨v45, hv45, h⟩ := some_of_bind h
              refine J_iald 349 dL_law_348 rfl hv45 ?_
              refine J_aload_n (i := 0) 0 350 dL_law_349 rfl rfl rfl ?_
              refine J_iload_n (i := 3) 3 351 dL_law_350 rfl rfl rfl ?_
              refine J_ic 352 dL_law_351 rfl (2 : Int32) kic_2 ?_
              refine J_iadd 353 dL_law_352 rfl ?_
              obtain ⟨v46, hv46, h⟩ := some_of_bind h
              refine J_iald 354 dL_law_353 rfl hv46 ?_
              obtain ⟨b48, hb48, h⟩ := some_of_bind h
              obtain ⟨q47, hq47, h⟩ := some_of_bind h
              refine J_cVi 357 dL_law_354 rfl ykX7_terms (Or.inl q2518) q2519 q2520 (Nat.le_of_ble_eq_true rfl) (cs_int cs_nil) (by decide) [.int v45, .int v46] hb48 (by decide) rfl rfl rfl (sX7_terms hγ l2 v45 v46 q43.2 q47 hq47) ?_
              refine J_icmp_eq 1361 360 dL_law_357 (by decide) rfl (fun c49 => ?_) (fun c49 => ?_)
              · rw [if_pos c49] at h
                refine J_iinc (i := 3) (v := l3 + (6 : Int32)) 3 1364 [(3, 1, .int (l3 + (6 : Int32))), (0, 1, va_rf l0), (1, 1, va_rf l1), (2, 1, va_rf l2)] dL_law_1361 rfl rfl (Nat.le_of_ble_eq_true rfl) (by rw [kic_6]) rfl ?_
                refine J_goto 18 dL_law_1364 (by decide) ?_
                refine J.pick [1, 2, 3, 0] rfl ?_
                exact ih (l3 + (6 : Int32)) q47.2 h
              · rw [if_neg c49] at h
                refine J_ic 361 dL_law_360 rfl (0 : Int32) kic_0 ?_
                exact J_zret rfl (by decide) dL_law_361 (retI h)
            · rw [if_neg c40] at h
              rcases Classical.em ((v4 &&& (63 : Int32)) = (4 : Int32)) with c51 | c51
              · rw [if_pos c51] at h
                refine J_tsC c51 362 dL_law_33 (by decide) (by decide) rfl (by decide) ?_
                refine J_aload_n (i := 1) 1 363 dL_law_362 rfl rfl rfl ?_
                refine J_aload_n (i := 0) 0 364 dL_law_363 rfl rfl rfl ?_
                refine J_iload_n (i := 3) 3 365 dL_law_364 rfl rfl rfl ?_
                refine J_ic 366 dL_law_365 rfl (1 : Int32) kic_1 ?_
                refine J_iadd 367 dL_law_366 rfl ?_
                obtain ⟨v52, hv52, h⟩ := some_of_bind h
                refine J_iald 368 dL_law_367 rfl hv52 ?_
                refine J_aload_n (i := 0) 0 369 dL_law_368 rfl rfl rfl ?_
                refine J_iload_n (i := 3) 3 370 dL_law_369 rfl rfl rfl ?_
                refine J_ic 371 dL_law_370 rfl (2 : Int32) kic_2 ?_
                refine J_iadd 372 dL_law_371 rfl ?_
                obtain ⟨v53, hv53, h⟩ := some_of_bind h
                refine J_iald 373 dL_law_372 rfl hv53 ?_
                refine J_aload_n (i := 0) 0 374 dL_law_373 rfl rfl rfl ?_
                refine J_iload_n (i := 3) 3 375 dL_law_374 rfl rfl rfl ?_
                refine J_ic 376 dL_law_375 rfl (3 : Int32) kic_3 ?_
                refine J_iadd 377 dL_law_376 rfl ?_
                obtain ⟨v54, hv54, h⟩ := some_of_bind h
                refine J_iald 378 dL_law_377 rfl hv54 ?_
                refine J_aload_n (i := 0) 0 379 dL_law_378 rfl rfl rfl ?_
                refine J_iload_n (i := 3) 3 380 dL_law_379 rfl rfl rfl ?_
                refine J_ic 381 dL_law_380 rfl (4 : Int32) kic_4 ?_
                refine J_iadd 382 dL_law_381 rfl ?_
                obtain ⟨v55, hv55, h⟩ := some_of_bind h
                refine J_iald 383 dL_law_382 rfl hv55 ?_
                refine J_aload_n (i := 0) 0 384 dL_law_383 rfl rfl rfl ?_
                refine J_iload_n (i := 3) 3 385 dL_law_384 rfl rfl rfl ?_
                refine J_ic 386 dL_law_385 rfl (5 : Int32) kic_5 ?_
                refine J_iadd 387 dL_law_386 rfl ?_
                obtain ⟨v56, hv56, h⟩ := some_of_bind h
                refine J_iald 388 dL_law_387 rfl hv56 ?_
                obtain ⟨b58, hb58, h⟩ := some_of_bind h
                obtain ⟨q57, hq57, h⟩ := some_of_bind h
                refine J_cVi 391 dL_law_388 rfl ykX0_feed (Or.inl q472) q473 q474 (Nat.le_of_ble_eq_true rfl) cs_nil (by decide) [.int v52, .int v53, .int v54, .int v55, .int v56] hb58 (by decide) rfl rfl rfl (sX0_feed hγ l1 v52 v53 v54 v55 v56 σ q57 hq57) ?_
                refine J_aload_n (i := 2) 2 392 dL_law_391 rfl rfl rfl ?_
                refine J_aload_n (i := 0) 0 393 dL_law_392 rfl rfl rfl ?_
                refine J_iload_n (i := 3) 3 394 dL_law_393 rfl rfl rfl ?_
                refine J_ic 395 dL_law_394 rfl (1 : Int32) kic_1 ?_
                refine J_iadd 396 dL_law_395 rfl ?_
                obtain ⟨v59, hv59, h⟩ := some_of_bind h
                refine J_iald 397 dL_law_396 rfl hv59 ?_
                refine J_aload_n (i := 0) 0 398 dL_law_397 rfl rfl rfl ?_
                refine J_iload_n (i := 3) 3 399 dL_law_398 rfl rfl rfl ?_
                refine J_ic 400 dL_law_399 rfl (2 : Int32) kic_2 ?_
                refine J_iadd 401 dL_law_400 rfl ?_
                obtain ⟨v60, hv60, h⟩ := some_of_bind h
                refine J_iald 402 dL_law_401 rfl hv60 ?_
                refine J_aload_n (i := 0) 0 403 dL_law_402 rfl rfl rfl ?_
                refine J_iload_n (i := 3) 3 404 dL_law_403 rfl rfl rfl ?_
                refine J_ic 405 dL_law_404 rfl (3 : Int32) kic_3 ?_
                refine J_iadd 406 dL_law_405 rfl ?_
                obtain ⟨v61, hv61, h⟩ := some_of_bind h
                refine J_iald 407 dL_law_406 rfl hv61 ?_
                refine J_aload_n (i := 0) 0 408 dL_law_407 rfl rfl rfl ?_
                refine J_iload_n (i := 3) 3 409 dL_law_408 rfl rfl rfl ?_
                refine J_ic 410 dL_law_409 rfl (4 : Int32) kic_4 ?_
                refine J_iadd 411 dL_law_410 rfl ?_
                obtain ⟨v62, hv62, h⟩ := some_of_bind h
                refine J_iald 412 dL_law_411 rfl hv62 ?_
                refine J_aload_n (i := 0) 0 413 dL_law_412 rfl rfl rfl ?_
                refine J_iload_n (i := 3) 3 414 dL_law_413 rfl rfl rfl ?_
                refine J_ic 415 dL_law_414 rfl (5 : Int32) kic_5 ?_
                refine J_iadd 416 dL_law_415 rfl ?_
                obtain ⟨v63, hv63, h⟩ := some_of_bind h
                refine J_iald 417 dL_law_416 rfl hv63 ?_
                obtain ⟨b65, hb65, h⟩ := some_of_bind h
                obtain ⟨q64, hq64, h⟩ := some_of_bind h
                refine J_cVi 420 dL_law_417 rfl ykX7_feed (Or.inl q2564) q2565 q2566 (Nat.le_of_ble_eq_true rfl) (cs_int cs_nil) (by decide) [.int v59, .int v60, .int v61, .int v62, .int v63] hb65 (by decide) rfl rfl rfl (sX7_feed hγ l2 v59 v60 v61 v62 v63 q57.2 q64 hq64) ?_
                refine J_icmp_eq 1361 423 dL_law_420 (by decide) rfl (fun c66 => ?_) (fun c66 => ?_)
                · rw [if_pos c66] at h
                  refine J_iinc (i := 3) (v := l3 + (6 : Int32)) 3 1364 [(3, 1, .int (l3 + (6 : Int32))), (0, 1, va_rf l0), (1, 1, va_rf l1), (2, 1, va_rf l2)] dL_law_1361 rfl rfl (Nat.le_of_ble_eq_true rfl) (by rw [kic_6]) rfl ?_
                  refine J_goto 18 dL_law_1364 (by decide) ?_
                  refine J.pick [1, 2, 3, 0] rfl ?_
                  exact ih (l3 + (6 : Int32)) q64.2 h
                · rw [if_neg c66] at h
                  refine J_ic 424 dL_law_423 rfl (0 : Int32) kic_0 ?_
                  exact J_zret rfl (by decide) dL_law_424 (retI h)
              · rw [if_neg c51] at h
                rcases Classical.em ((v4 &&& (63 : Int32)) = (5 : Int32)) with c68 | c68
                · rw [if_pos c68] at h
                  refine J_tsC c68 425 dL_law_33 (by decide) (by decide) rfl (by decide) ?_
                  refine J_aload_n (i := 1) 1 426 dL_law_425 rfl rfl rfl ?_
                  refine J_aload_n (i := 0) 0 427 dL_law_426 rfl rfl rfl ?_
                  refine J_iload_n (i := 3) 3 428 dL_law_427 rfl rfl rfl ?_
                  refine J_ic 429 dL_law_428 rfl (1 : Int32) kic_1 ?_
                  refine J_iadd 430 dL_law_429 rfl ?_
                  obtain ⟨v69, hv69, h⟩ := some_of_bind h
                  refine J_iald 431 dL_law_430 rfl hv69 ?_
                  obtain ⟨b71, hb71, h⟩ := some_of_bind h
                  obtain ⟨q70, hq70, h⟩ := some_of_bind h
                  refine J_cVi 434 dL_law_431 rfl ykX0_end (Or.inl q480) q481 q482 (Nat.le_of_ble_eq_true rfl) cs_nil (by decide) [.int v69] hb71 (by decide) rfl rfl rfl (sX0_end hγ l1 v69 σ q70 hq70) ?_
                  refine J_aload_n (i := 2) 2 435 dL_law_434 rfl rfl rfl ?_
                  refine J_aload_n (i := 0) 0 436 dL_law_435 rfl rfl rfl ?_
                  refine J_iload_n (i := 3) 3 437 dL_law_436 rfl rfl rfl ?_
                  refine J_ic 438 dL_law_437 rfl (1 : Int32) kic_1 ?_
                  refine J_iadd 439 dL_law_438 rfl ?_
                  obtain ⟨v72, hv72, h⟩ := some_of_bind h
                  refine J_iald 440 dL_law_439 rfl hv72 ?_
                  obtain ⟨b74, hb74, h⟩ := some_of_bind h
                  obtain ⟨q73, hq73, h⟩ := some_of_bind h
                  refine J_cVi 443 dL_law_440 rfl ykX7_end (Or.inl q2568) q2569 q2570 (Nat.le_of_ble_eq_true rfl) (cs_int cs_nil) (by decide) [.int v72] hb74 (by decide) rfl rfl rfl (sX7_end hγ l2 v72 q70.2 q73 hq73) ?_
                  refine J_icmp_eq 1361 446 dL_law_443 (by decide) rfl (fun c75 => ?_) (fun c75 => ?_)
                  · rw [if_pos c75] at h
                    refine J_iinc (i := 3) (v := l3 + (6 : Int32)) 3 1364 [(3, 1, .int (l3 + (6 : Int32))), (0, 1, va_rf l0), (1, 1, va_rf l1), (2, 1, va_rf l2)] dL_law_1361 rfl rfl (Nat.le_of_ble_eq_true rfl) (by rw [kic_6]) rfl ?_
                    refine J_goto 18 dL_law_1364 (by decide) ?_
                    refine J.pick [1, 2, 3, 0] rfl ?_
                    exact ih (l3 + (6 : Int32)) q73.2 h
                  · rw [if_neg c75] at h
                    refine J_ic 447 dL_law_446 rfl (0 : Int32) kic_0 ?_
                    exact J_zret rfl (by decide) dL_law_447 (retI h)
                · rw [if_neg c68] at h
                  rcases Classical.em ((v4 &&& (63 : Int32)) = (6 : Int32)) with c77 | c77
                  · rw [if_pos c77] at h
                    refine J_tsC c77 448 dL_law_33 (by decide) (by decide) rfl (by decide) ?_
                    refine J_aload_n (i := 1) 1 449 dL_law_448 rfl rfl rfl ?_
                    obtain ⟨b79, hb79, h⟩ := some_of_bind h
                    obtain ⟨q78, hq78, h⟩ := some_of_bind h
                    refine J_cVHi 452 dL_law_449 rfl ykX0_row q652 q653 q654 (Nat.le_of_ble_eq_true rfl) cs_nil (by decide) [] hb79 (by decide) rfl rfl rfl (sX0_row hγ l1  σ q78 hq78) ?_
                    refine J_aload_n (i := 2) 2 453 dL_law_452 rfl rfl rfl ?_
                    obtain ⟨b81, hb81, h⟩ := some_of_bind h
                    obtain ⟨q80, hq80, h⟩ := some_of_bind h
                    refine J_cVi 456 dL_law_453 rfl ykX7_row (Or.inl q2528) q2529 q2530 (Nat.le_of_ble_eq_true rfl) (cs_int cs_nil) (by decide) [] hb81 (by decide) rfl rfl rfl (sX7_row hγ l2  q78.2 q80 hq80) ?_
                    refine J_icmp_eq 1361 459 dL_law_456 (by decide) rfl (fun c82 => ?_) (fun c82 => ?_)
                    · rw [if_pos c82] at h
                      refine J_iinc (i := 3) (v := l3 + (6 : Int32)) 3 1364 [(3, 1, .int (l3 + (6 : Int32))), (0, 1, va_rf l0), (1, 1, va_rf l1), (2, 1, va_rf l2)] dL_law_1361 rfl rfl (Nat.le_of_ble_eq_true rfl) (by rw [kic_6]) rfl ?_
                      refine J_goto 18 dL_law_1364 (by decide) ?_
                      refine J.pick [1, 2, 3, 0] rfl ?_
                      exact ih (l3 + (6 : Int32)) q80.2 h
                    · rw [if_neg c82] at h
                      refine J_ic 460 dL_law_459 rfl (0 : Int32) kic_0 ?_
                      exact J_zret rfl (by decide) dL_law_460 (retI h)
                  · rw [if_neg c77] at h
                    rcases Classical.em ((v4 &&& (63 : Int32)) = (7 : Int32)) with c84 | c84
                    · rw [if_pos c84] at h
                      refine J_tsC c84 461 dL_law_33 (by decide) (by decide) rfl (by decide) ?_
                      refine J_aload_n (i := 1) 1 462 dL_law_461 rfl rfl rfl ?_
                      obtain ⟨b86, hb86, h⟩ := some_of_bind h
                      obtain ⟨q85, hq85, h⟩ := some_of_bind h
                      refine J_cVi 465 dL_law_462 rfl ykX0_blanks (Or.inl q768) q769 q770 (Nat.le_of_ble_eq_true rfl) cs_nil (by decide) [] hb86 (by decide) rfl rfl rfl (sX0_blanks hγ l1  σ q85 hq85) ?_
                      refine J_aload_n (i := 2) 2 466 dL_law_465 rfl rfl rfl ?_
                      obtain ⟨b88, hb88, h⟩ := some_of_bind h
                      obtain ⟨q87, hq87, h⟩ := some_of_bind h
                      refine J_cVi 469 dL_law_466 rfl ykX7_blanks (Or.inl q2560) q2561 q2562 (Nat.le_of_ble_eq_true rfl) (cs_int cs_nil) (by decide) [] hb88 (by decide) rfl rfl rfl (sX7_blanks hγ l2  q85.2 q87 hq87) ?_
                      refine J_icmp_eq 1361 472 dL_law_469 (by decide) rfl (fun c89 => ?_) (fun c89 => ?_)
                      · rw [if_pos c89] at h
                        refine J_iinc (i := 3) (v := l3 + (6 : Int32)) 3 1364 [(3, 1, .int (l3 + (6 : Int32))), (0, 1, va_rf l0), (1, 1, va_rf l1), (2, 1, va_rf l2)] dL_law_1361 rfl rfl (Nat.le_of_ble_eq_true rfl) (by rw [kic_6]) rfl ?_
                        refine J_goto 18 dL_law_1364 (by decide) ?_
                        refine J.pick [1, 2, 3, 0] rfl ?_
                        exact ih (l3 + (6 : Int32)) q87.2 h
                      · rw [if_neg c89] at h
                        refine J_ic 473 dL_law_472 rfl (0 : Int32) kic_0 ?_
                        exact J_zret rfl (by decide) dL_law_473 (retI h)
                    · rw [if_neg c84] at h
                      rcases Classical.em ((v4 &&& (63 : Int32)) = (8 : Int32)) with c91 | c91
                      · rw [if_pos c91] at h
                        refine J_tsC c91 474 dL_law_33 (by decide) (by decide) rfl (by decide) ?_
                        refine J_aload_n (i := 1) 1 475 dL_law_474 rfl rfl rfl ?_
                        obtain ⟨b93, hb93, h⟩ := some_of_bind h
                        obtain ⟨q92, hq92, h⟩ := some_of_bind h
                        refine J_cVi 478 dL_law_475 rfl ykX0_policy (Or.inl q772) q773 q774 (Nat.le_of_ble_eq_true rfl) cs_nil (by decide) [] hb93 (by decide) rfl rfl rfl (sX0_policy hγ l1  σ q92 hq92) ?_
                        refine J_aload_n (i := 2) 2 479 dL_law_478 rfl rfl rfl ?_
                        obtain ⟨b95, hb95, h⟩ := some_of_bind h
                        obtain ⟨q94, hq94, h⟩ := some_of_bind h
                        refine J_cVi 482 dL_law_479 rfl ykX7_policy (Or.inl q2572) q2573 q2574 (Nat.le_of_ble_eq_true rfl) (cs_int cs_nil) (by decide) [] hb95 (by decide) rfl rfl rfl (sX7_policy hγ l2  q92.2 q94 hq94) ?_
                        refine J_icmp_eq 1361 485 dL_law_482 (by decide) rfl (fun c96 => ?_) (fun c96 => ?_)
                        · rw [if_pos c96] at h
                          refine J_iinc (i := 3) (v := l3 + (6 : Int32)) 3 1364 [(3, 1, .int (l3 + (6 : Int32))), (0, 1, va_rf l0), (1, 1, va_rf l1), (2, 1, va_rf l2)] dL_law_1361 rfl rfl (Nat.le_of_ble_eq_true rfl) (by rw [kic_6]) rfl ?_
                          refine J_goto 18 dL_law_1364 (by decide) ?_
                          refine J.pick [1, 2, 3, 0] rfl ?_
                          exact ih (l3 + (6 : Int32)) q94.2 h
                        · rw [if_neg c96] at h
                          refine J_ic 486 dL_law_485 rfl (0 : Int32) kic_0 ?_
                          exact J_zret rfl (by decide) dL_law_486 (retI h)
                      · rw [if_neg c91] at h
                        rcases Classical.em ((v4 &&& (63 : Int32)) = (9 : Int32)) with c98 | c98
                        · rw [if_pos c98] at h
                          refine J_tsC c98 487 dL_law_33 (by decide) (by decide) rfl (by decide) ?_
                          refine J_aload_n (i := 1) 1 488 dL_law_487 rfl rfl rfl ?_
                          obtain ⟨b100, hb100, h⟩ := some_of_bind h
                          obtain ⟨q99, hq99, h⟩ := some_of_bind h
                          refine J_cVHi 491 dL_law_488 rfl ykX0_law q1041 q1042 q1043 (Nat.le_of_ble_eq_true rfl) cs_nil (by decide) [] hb100 (by decide) rfl rfl rfl (sX0_law hγ l1  σ q99 hq99) ?_
                          refine J_aload_n (i := 2) 2 492 dL_law_491 rfl rfl rfl ?_
                          obtain ⟨b102, hb102, h⟩ := some_of_bind h
                          obtain ⟨q101, hq101, h⟩ := some_of_bind h
                          refine J_cVi 495 dL_law_492 rfl ykX7_law (Or.inl q2599) q2600 q2601 (Nat.le_of_ble_eq_true rfl) (cs_int cs_nil) (by decide) [] hb102 (by decide) rfl rfl rfl (sX7_law hγ l2  q99.2 q101 hq101) ?_
                          refine J_icmp_eq 1361 498 dL_law_495 (by decide) rfl (fun c103 => ?_) (fun c103 => ?_)
                          · rw [if_pos c103] at h
                            refine J_iinc (i := 3) (v := l3 + (6 : Int32)) 3 1364 [(3, 1, .int (l3 + (6 : Int32))), (0, 1, va_rf l0), (1, 1, va_rf l1), (2, 1, va_rf l2)] dL_law_1361 rfl rfl (Nat.le_of_ble_eq_true rfl) (by rw [kic_6]) rfl ?_
                            refine J_goto 18 dL_law_1364 (by decide) ?_
                            refine J.pick [1, 2, 3, 0] rfl ?_
                            exact ih (l3 + (6 : Int32)) q101.2 h
                          · rw [if_neg c103] at h
                            refine J_ic 499 dL_law_498 rfl (0 : Int32) kic_0 ?_
                            exact J_zret rfl (by decide) dL_law_499 (retI h)
                        · rw [if_neg c98] at h
                          rcases Classical.em ((v4 &&& (63 : Int32)) = (10 : Int32)) with c105 | c105
                          · rw [if_pos c105] at h
                            refine J_tsC c105 500 dL_law_33 (by decide) (by decide) rfl (by decide) ?_
                            refine J_aload_n (i := 1) 1 501 dL_law_500 rfl rfl rfl ?_
                            obtain ⟨b107, hb107, h⟩ := some_of_bind h
                            obtain ⟨q106, hq106, h⟩ := some_of_bind h
                            refine J_cVHi 504 dL_law_501 rfl ykX0_orders q2054 q2055 q2056 (Nat.le_of_ble_eq_true rfl) cs_nil (by decide) [] hb107 (by decide) rfl rfl rfl (sX0_orders hγ l1  σ q106 hq106) ?_
                            refine J_aload_n (i := 2) 2 505 dL_law_504 rfl rfl rfl ?_
                            obtain ⟨b109, hb109, h⟩ := some_of_bind h
                            obtain ⟨q108, hq108, h⟩ := some_of_bind h
                            refine J_cVi 508 dL_law_505 rfl ykX7_orders (Or.inl q2919) q2920 q2921 (Nat.le_of_ble_eq_true rfl) (cs_int cs_nil) (by decide) [] hb109 (by decide) rfl rfl rfl (sX7_orders hγ l2  q106.2 q108 hq108) ?_
                            refine J_icmp_eq 1361 511 dL_law_508 (by decide) rfl (fun c110 => ?_) (fun c110 => ?_)
                            · rw [if_pos c110] at h
                              refine J_iinc (i := 3) (v := l3 + (6 : Int32)) 3 1364 [(3, 1, .int (l3 + (6 : Int32))), (0, 1, va_rf l0), (1, 1, va_rf l1), (2, 1, va_rf l2)] dL_law_1361 rfl rfl (Nat.le_of_ble_eq_true rfl) (by rw [kic_6]) rfl ?_
                              refine J_goto 18 dL_law_1364 (by decide) ?_
                              refine J.pick [1, 2, 3, 0] rfl ?_
                              exact ih (l3 + (6 : Int32)) q108.2 h
                            · rw [if_neg c110] at h
                              refine J_ic 512 dL_law_511 rfl (0 : Int32) kic_0 ?_
                              exact J_zret rfl (by decide) dL_law_512 (retI h)
                          · rw [if_neg c105] at h
                            rcases Classical.em ((v4 &&& (63 : Int32)) = (11 : Int32)) with c112 | c112
                            · rw [if_pos c112] at h
                              refine J_tsC c112 513 dL_law_33 (by decide) (by decide) rfl (by decide) ?_
                              refine J_aload_n (i := 1) 1 514 dL_law_513 rfl rfl rfl ?_
                              obtain ⟨b114, hb114, h⟩ := some_of_bind h
                              obtain ⟨q113, hq113, h⟩ := some_of_bind h
                              refine J_cVi 517 dL_law_514 rfl ykX0_fault (Or.inl q1560) q1561 q1562 (Nat.le_of_ble_eq_true rfl) cs_nil (by decide) [] hb114 (by decide) rfl rfl rfl (sX0_fault hγ l1  σ q113 hq113) ?_
                              refine J_aload_n (i := 2) 2 518 dL_law_517 rfl rfl rfl ?_
                              obtain ⟨b116, hb116, h⟩ := some_of_bind h
                              obtain ⟨q115, hq115, h⟩ := some_of_bind h
                              refine J_cVi 521 dL_law_518 rfl ykX7_fault (Or.inl q2671) q2672 q2673 (Nat.le_of_ble_eq_true rfl) (cs_int cs_nil) (by decide) [] hb116 (by decide) rfl rfl rfl (sX7_fault hγ l2  q113.2 q115 hq115) ?_
                              refine J_icmp_eq 1361 524 dL_law_521 (by decide) rfl (fun c117 => ?_) (fun c117 => ?_)
                              · rw [if_pos c117] at h
                                refine J_iinc (i := 3) (v := l3 + (6 : Int32)) 3 1364 [(3, 1, .int (l3 + (6 : Int32))), (0, 1, va_rf l0), (1, 1, va_rf l1), (2, 1, va_rf l2)] dL_law_1361 rfl rfl (Nat.le_of_ble_eq_true rfl) (by rw [kic_6]) rfl ?_
                                refine J_goto 18 dL_law_1364 (by decide) ?_
                                refine J.pick [1, 2, 3, 0] rfl ?_
                                exact ih (l3 + (6 : Int32)) q115.2 h
                              · rw [if_neg c117] at h
                                refine J_ic 525 dL_law_524 rfl (0 : Int32) kic_0 ?_
                                exact J_zret rfl (by decide) dL_law_525 (retI h)
                            · rw [if_neg c112] at h
                              rcases Classical.em ((v4 &&& (63 : Int32)) = (12 : Int32)) with c119 | c119
                              · rw [if_pos c119] at h
                                refine J_tsC c119 526 dL_law_33 (by decide) (by decide) rfl (by decide) ?_
                                refine J_aload_n (i := 1) 1 527 dL_law_526 rfl rfl rfl ?_
                                obtain ⟨b121, hb121, h⟩ := some_of_bind h
                                obtain ⟨q120, hq120, h⟩ := some_of_bind h
                                refine J_cVi 530 dL_law_527 rfl ykX0_stopped (Or.inl q2124) q2125 q2126 (Nat.le_of_ble_eq_true rfl) cs_nil (by decide) [] hb121 (by decide) rfl rfl rfl (sX0_stopped hγ l1  σ q120 hq120) ?_
                                refine J_aload_n (i := 2) 2 531 dL_law_530 rfl rfl rfl ?_
                                obtain ⟨b123, hb123, h⟩ := some_of_bind h
                                obtain ⟨q122, hq122, h⟩ := some_of_bind h
                                refine J_cVi 534 dL_law_531 rfl ykX7_stopped (Or.inl q2915) q2916 q2917 (Nat.le_of_ble_eq_true rfl) (cs_int cs_nil) (by decide) [] hb123 (by decide) rfl rfl rfl (sX7_stopped hγ l2  q120.2 q122 hq122) ?_
                                refine J_icmp_eq 1361 537 dL_law_534 (by decide) rfl (fun c124 => ?_) (fun c124 => ?_)
                                · rw [if_pos c124] at h
                                  refine J_iinc (i := 3) (v := l3 + (6 : Int32)) 3 1364 [(3, 1, .int (l3 + (6 : Int32))), (0, 1, va_rf l0), (1, 1, va_rf l1), (2, 1, va_rf l2)] dL_law_1361 rfl rfl (Nat.le_of_ble_eq_true rfl) (by rw [kic_6]) rfl ?_
                                  refine J_goto 18 dL_law_1364 (by decide) ?_
                                  refine J.pick [1, 2, 3, 0] rfl ?_
                                  exact ih (l3 + (6 : Int32)) q122.2 h
                                · rw [if_neg c124] at h
                                  refine J_ic 538 dL_law_537 rfl (0 : Int32) kic_0 ?_
                                  exact J_zret rfl (by decide) dL_law_538 (retI h)
                              · rw [if_neg c119] at h
                                rcases Classical.em ((v4 &&& (63 : Int32)) = (13 : Int32)) with c126 | c126
                                · rw [if_pos c126] at h
                                  refine J_tsC c126 539 dL_law_33 (by decide) (by decide) rfl (by decide) ?_
                                  refine J_aload_n (i := 1) 1 540 dL_law_539 rfl rfl rfl ?_
                                  refine J_aload_n (i := 0) 0 541 dL_law_540 rfl rfl rfl ?_
                                  refine J_iload_n (i := 3) 3 542 dL_law_541 rfl rfl rfl ?_
                                  refine J_ic 543 dL_law_542 rfl (1 : Int32) kic_1 ?_
                                  refine J_iadd 544 dL_law_543 rfl ?_
                                  obtain ⟨v127, hv127, h⟩ := some_of_bind h
                                  refine J_iald 545 dL_law_544 rfl hv127 ?_
                                  obtain ⟨b129, hb129, h⟩ := some_of_bind h
                                  obtain ⟨q128, hq128, h⟩ := some_of_bind h
                                  refine J_cVi 548 dL_law_545 rfl ykX0_force (Or.inl q1564) q1565 q1566 (Nat.le_of_ble_eq_true rfl) cs_nil (by decide) [.int v127] hb129 (by decide) rfl rfl rfl (sX0_force hγ l1 v127 σ q128 hq128) ?_
                                  refine J_aload_n (i := 2) 2 549 dL_law_548 rfl rfl rfl ?_
                                  refine J_aload_n (i := 0) 0 550 dL_law_549 rfl rfl rfl ?_
                                  refine J_iload_n (i := 3) 3 551 dL_law_550 rfl rfl rfl ?_
                                  refine J_ic 552 dL_law_551 rfl (1 : Int32) kic_1 ?_
                                  refine J_iadd 553 dL_law_552 rfl ?_
                                  obtain ⟨v130, hv130, h⟩ := some_of_bind h
                                  refine J_iald 554 dL_law_553 rfl hv130 ?_
                                  obtain ⟨b132, hb132, h⟩ := some_of_bind h
                                  obtain ⟨q131, hq131, h⟩ := some_of_bind h
                                  refine J_cVi 557 dL_law_554 rfl ykX7_force (Or.inl q2675) q2676 q2677 (Nat.le_of_ble_eq_true rfl) (cs_int cs_nil) (by decide) [.int v130] hb132 (by decide) rfl rfl rfl (sX7_force hγ l2 v130 q128.2 q131 hq131) ?_
                                  refine J_icmp_eq 1361 560 dL_law_557 (by decide) rfl (fun c133 => ?_) (fun c133 => ?_)
                                  · rw [if_pos c133] at h
                                    refine J_iinc (i := 3) (v := l3 + (6 : Int32)) 3 1364 [(3, 1, .int (l3 + (6 : Int32))), (0, 1, va_rf l0), (1, 1, va_rf l1), (2, 1, va_rf l2)] dL_law_1361 rfl rfl (Nat.le_of_ble_eq_true rfl) (by rw [kic_6]) rfl ?_
                                    refine J_goto 18 dL_law_1364 (by decide) ?_
                                    refine J.pick [1, 2, 3, 0] rfl ?_
                                    exact ih (l3 + (6 : Int32)) q131.2 h
                                  · rw [if_neg c133] at h
                                    refine J_ic 561 dL_law_560 rfl (0 : Int32) kic_0 ?_
                                    exact J_zret rfl (by decide) dL_law_561 (retI h)
                                · rw [if_neg c126] at h
                                  rcases Classical.em ((v4 &&& (63 : Int32)) = (14 : Int32)) with c135 | c135
                                  · rw [if_pos c135] at h
                                    refine J_tsC c135 562 dL_law_33 (by decide) (by decide) rfl (by decide) ?_
                                    refine J_aload_n (i := 1) 1 563 dL_law_562 rfl rfl rfl ?_
                                    refine J_aload_n (i := 0) 0 564 dL_law_563 rfl rfl rfl ?_
                                    refine J_iload_n (i := 3) 3 565 dL_law_564 rfl rfl rfl ?_
                                    refine J_ic 566 dL_law_565 rfl (1 : Int32) kic_1 ?_
                                    refine J_iadd 567 dL_law_566 rfl ?_
                                    obtain ⟨v136, hv136, h⟩ := some_of_bind h
                                    refine J_iald 568 dL_law_567 rfl hv136 ?_
                                    refine J_aload_n (i := 0) 0 569 dL_law_568 rfl rfl rfl ?_
                                    refine J_iload_n (i := 3) 3 570 dL_law_569 rfl rfl rfl ?_
                                    refine J_ic 571 dL_law_570 rfl (2 : Int32) kic_2 ?_
                                    refine J_iadd 572 dL_law_571 rfl ?_
                                    obtain ⟨v137, hv137, h⟩ := some_of_bind h
                                    refine J_iald 573 dL_law_572 rfl hv137 ?_
                                    obtain ⟨b139, hb139, h⟩ := some_of_bind h
                                    obtain ⟨q138, hq138, h⟩ := some_of_bind h
                                    refine J_cVi 576 dL_law_573 rfl ykX0_read (Or.inl q1572) q1573 q1574 (Nat.le_of_ble_eq_true rfl) cs_nil (by decide) [.int v136, .int v137] hb139 (by decide) rfl rfl rfl (sX0_read hγ l1 v136 v137 σ q138 hq138) ?_
                                    refine J_aload_n (i := 2) 2 577 dL_law_576 rfl rfl rfl ?_
                                    refine J_aload_n (i := 0) 0 578 dL_law_577 rfl rfl rfl ?_
                                    refine J_iload_n (i := 3) 3 579 dL_law_578 rfl rfl rfl ?_
                                    refine J_ic 580 dL_law_579 rfl (1 : Int32) kic_1 ?_
                                    refine J_iadd 581 dL_law_580 rfl ?_
                                    obtain ⟨v140, hv140, h⟩ := some_of_bind h
                                    refine J_iald 582 dL_law_581 rfl hv140 ?_
                                    refine J_aload_n (i := 0) 0 583 dL_law_582 rfl rfl rfl ?_
                                    refine J_iload_n (i := 3) 3 584 dL_law_583 rfl rfl rfl ?_
                                    refine J_ic 585 dL_law_584 rfl (2 : Int32) kic_2 ?_
                                    refine J_iadd 586 dL_law_585 rfl ?_
                                    obtain ⟨v141, hv141, h⟩ := some_of_bind h
                                    refine J_iald 587 dL_law_586 rfl hv141 ?_
                                    obtain ⟨b143, hb143, h⟩ := some_of_bind h
                                    obtain ⟨q142, hq142, h⟩ := some_of_bind h
                                    refine J_cVi 590 dL_law_587 rfl ykX7_read (Or.inl q2687) q2688 q2689 (Nat.le_of_ble_eq_true rfl) (cs_int cs_nil) (by decide) [.int v140, .int v141] hb143 (by decide) rfl rfl rfl (sX7_read hγ l2 v140 v141 q138.2 q142 hq142) ?_
                                    refine J_icmp_eq 1361 593 dL_law_590 (by decide) rfl (fun c144 => ?_) (fun c144 => ?_)
                                    · rw [if_pos c144] at h
                                      refine J_iinc (i := 3) (v := l3 + (6 : Int32)) 3 1364 [(3, 1, .int (l3 + (6 : Int32))), (0, 1, va_rf l0), (1, 1, va_rf l1), (2, 1, va_rf l2)] dL_law_1361 rfl rfl (Nat.le_of_ble_eq_true rfl) (by rw [kic_6]) rfl ?_
                                      refine J_goto 18 dL_law_1364 (by decide) ?_
                                      refine J.pick [1, 2, 3, 0] rfl ?_
                                      exact ih (l3 + (6 : Int32)) q142.2 h
                                    · rw [if_neg c144] at h
                                      refine J_ic 594 dL_law_593 rfl (0 : Int32) kic_0 ?_
                                      exact J_zret rfl (by decide) dL_law_594 (retI h)
                                  · rw [if_neg c135] at h
                                    rcases Classical.em ((v4 &&& (63 : Int32)) = (15 : Int32)) with c146 | c146
                                    · rw [if_pos c146] at h
                                      refine J_tsC c146 595 dL_law_33 (by decide) (by decide) rfl (by decide) ?_
                                      refine J_aload_n (i := 1) 1 596 dL_law_595 rfl rfl rfl ?_
                                      refine J_aload_n (i := 0) 0 597 dL_law_596 rfl rfl rfl ?_
                                      refine J_iload_n (i := 3) 3 598 dL_law_597 rfl rfl rfl ?_
                                      refine J_ic 599 dL_law_598 rfl (1 : Int32) kic_1 ?_
                                      refine J_iadd 600 dL_law_599 rfl ?_
                                      obtain ⟨v147, hv147, h⟩ := some_of_bind h
                                      refine J_iald 601 dL_law_600 rfl hv147 ?_
                                      refine J_aload_n (i := 0) 0 602 dL_law_601 rfl rfl rfl ?_
                                      refine J_iload_n (i := 3) 3 603 dL_law_602 rfl rfl rfl ?_
                                      refine J_ic 604 dL_law_603 rfl (2 : Int32) kic_2 ?_
                                      refine J_iadd 605 dL_law_604 rfl ?_
                                      obtain ⟨v148, hv148, h⟩ := some_of_bind h
                                      refine J_iald 606 dL_law_605 rfl hv148 ?_
                                      refine J_aload_n (i := 0) 0 607 dL_law_606 rfl rfl rfl ?_
                                      refine J_iload_n (i := 3) 3 608 dL_law_607 rfl rfl rfl ?_
                                      refine J_ic 609 dL_law_608 rfl (3 : Int32) kic_3 ?_
                                      refine J_iadd 610 dL_law_609 rfl ?_
                                      obtain ⟨v149, hv149, h⟩ := some_of_bind h
                                      refine J_iald 611 dL_law_610 rfl hv149 ?_
                                      obtain ⟨b151, hb151, h⟩ := some_of_bind h
                                      obtain ⟨q150, hq150, h⟩ := some_of_bind h
                                      refine J_cVi 614 dL_law_611 rfl ykX0_loop (Or.inl q1593) q1594 q1595 (Nat.le_of_ble_eq_true rfl) cs_nil (by decide) [.int v147, .int v148, .int v149] hb151 (by decide) rfl rfl rfl (sX0_loop hγ l1 v147 v148 v149 σ q150 hq150) ?_
                                      refine J_aload_n (i := 2) 2 615 dL_law_614 rfl rfl rfl ?_
                                      refine J_aload_n (i := 0) 0 616 dL_law_615 rfl rfl rfl ?_
                                      refine J_iload_n (i := 3) 3 617 dL_law_616 rfl rfl rfl ?_
                                      refine J_ic 618 dL_law_617 rfl (1 : Int32) kic_1 ?_
                                      refine J_iadd 619 dL_law_618 rfl ?_
                                      obtain ⟨v152, hv152, h⟩ := some_of_bind h
                                      refine J_iald 620 dL_law_619 rfl hv152 ?_
                                      refine J_aload_n (i := 0) 0 621 dL_law_620 rfl rfl rfl ?_
                                      refine J_iload_n (i := 3) 3 622 dL_law_621 rfl rfl rfl ?_
                                      refine J_ic 623 dL_law_622 rfl (2 : Int32) kic_2 ?_
                                      refine J_iadd 624 dL_law_623 rfl ?_
                                      obtain ⟨v153, hv153, h⟩ := some_of_bind h
                                      refine J_iald 625 dL_law_624 rfl hv153 ?_
                                      refine J_aload_n (i := 0) 0 626 dL_law_625 rfl rfl rfl ?_
                                      refine J_iload_n (i := 3) 3 627 dL_law_626 rfl rfl rfl ?_
                                      refine J_ic 628 dL_law_627 rfl (3 : Int32) kic_3 ?_
                                      refine J_iadd 629 dL_law_628 rfl ?_
                                      obtain ⟨v154, hv154, h⟩ := some_of_bind h
                                      refine J_iald 630 dL_law_629 rfl hv154 ?_
                                      obtain ⟨b156, hb156, h⟩ := some_of_bind h
                                      obtain ⟨q155, hq155, h⟩ := some_of_bind h
                                      refine J_cVi 633 dL_law_630 rfl ykX7_loop (Or.inl q2703) q2704 q2705 (Nat.le_of_ble_eq_true rfl) (cs_int cs_nil) (by decide) [.int v152, .int v153, .int v154] hb156 (by decide) rfl rfl rfl (sX7_loop hγ l2 v152 v153 v154 q150.2 q155 hq155) ?_
                                      refine J_icmp_eq 1361 636 dL_law_633 (by decide) rfl (fun c157 => ?_) (fun c157 => ?_)
                                      · rw [if_pos c157] at h
                                        refine J_iinc (i := 3) (v := l3 + (6 : Int32)) 3 1364 [(3, 1, .int (l3 + (6 : Int32))), (0, 1, va_rf l0), (1, 1, va_rf l1), (2, 1, va_rf l2)] dL_law_1361 rfl rfl (Nat.le_of_ble_eq_true rfl) (by rw [kic_6]) rfl ?_
                                        refine J_goto 18 dL_law_1364 (by decide) ?_
                                        refine J.pick [1, 2, 3, 0] rfl ?_
                                        exact ih (l3 + (6 : Int32)) q155.2 h
                                      · rw [if_neg c157] at h
                                        refine J_ic 637 dL_law_636 rfl (0 : Int32) kic_0 ?_
                                        exact J_zret rfl (by decide) dL_law_637 (retI h)
                                    · rw [if_neg c146] at h
                                      rcases Classical.em ((v4 &&& (63 : Int32)) = (16 : Int32)) with c159 | c159
                                      · rw [if_pos c159] at h
                                        refine J_tsC c159 638 dL_law_33 (by decide) (by decide) rfl (by decide) ?_
                                        refine J_aload_n (i := 1) 1 639 dL_law_638 rfl rfl rfl ?_
                                        refine J_aload_n (i := 0) 0 640 dL_law_639 rfl rfl rfl ?_
                                        refine J_iload_n (i := 3) 3 641 dL_law_640 rfl rfl rfl ?_
                                        refine J_ic 642 dL_law_641 rfl (1 : Int32) kic_1 ?_
                                        refine J_iadd 643 dL_law_642 rfl ?_
                                        obtain ⟨v160, hv160, h⟩ := some_of_bind h
                                        refine J_iald 644 dL_law_643 rfl hv160 ?_
                                        refine J_aload_n (i := 0) 0 645 dL_law_644 rfl rfl rfl ?_
                                        refine J_iload_n (i := 3) 3 646 dL_law_645 rfl rfl rfl ?_
                                        refine J_ic 647 dL_law_646 rfl (2 : Int32) kic_2 ?_
                                        refine J_iadd 648 dL_law_647 rfl ?_
                                        obtain ⟨v161, hv161, h⟩ := some_of_bind h
                                        refine J_iald 649 dL_law_648 rfl hv161 ?_
                                        obtain ⟨b163, hb163, h⟩ := some_of_bind h
                                        obtain ⟨q162, hq162, h⟩ := some_of_bind h
                                        refine J_cVi 652 dL_law_649 rfl ykX0_drop (Or.inl q1601) q1602 q1603 (Nat.le_of_ble_eq_true rfl) cs_nil (by decide) [.int v160, .int v161] hb163 (by decide) rfl rfl rfl (sX0_drop hγ l1 v160 v161 σ q162 hq162) ?_
                                        refine J_aload_n (i := 2) 2 653 dL_law_652 rfl rfl rfl ?_
                                        refine J_aload_n (i := 0) 0 654 dL_law_653 rfl rfl rfl ?_
                                        refine J_iload_n (i := 3) 3 655 dL_law_654 rfl rfl rfl ?_
                                        refine J_ic 656 dL_law_655 rfl (1 : Int32) kic_1 ?_
                                        refine J_iadd 657 dL_law_656 rfl ?_
                                        obtain ⟨v164, hv164, h⟩ := some_of_bind h
                                        refine J_iald 658 dL_law_657 rfl hv164 ?_
                                        refine J_aload_n (i := 0) 0 659 dL_law_658 rfl rfl rfl ?_
                                        refine J_iload_n (i := 3) 3 660 dL_law_659 rfl rfl rfl ?_
                                        refine J_ic 661 dL_law_660 rfl (2 : Int32) kic_2 ?_
                                        refine J_iadd 662 dL_law_661 rfl ?_
                                        obtain ⟨v165, hv165, h⟩ := some_of_bind h
                                        refine J_iald 663 dL_law_662 rfl hv165 ?_
                                        obtain ⟨b167, hb167, h⟩ := some_of_bind h
                                        obtain ⟨q166, hq166, h⟩ := some_of_bind h
                                        refine J_cVi 666 dL_law_663 rfl ykX7_drop (Or.inl q2711) q2712 q2713 (Nat.le_of_ble_eq_true rfl) (cs_int cs_nil) (by decide) [.int v164, .int v165] hb167 (by decide) rfl rfl rfl (sX7_drop hγ l2 v164 v165 q162.2 q166 hq166) ?_
                                        refine J_icmp_eq 1361 669 dL_law_666 (by decide) rfl (fun c168 => ?_) (fun c168 => ?_)
                                        · rw [if_pos c168] at h
                                          refine J_iinc (i := 3) (v := l3 + (6 : Int32)) 3 1364 [(3, 1, .int (l3 + (6 : Int32))), (0, 1, va_rf l0), (1, 1, va_rf l1), (2, 1, va_rf l2)] dL_law_1361 rfl rfl (Nat.le_of_ble_eq_true rfl) (by rw [kic_6]) rfl ?_
                                          refine J_goto 18 dL_law_1364 (by decide) ?_
                                          refine J.pick [1, 2, 3, 0] rfl ?_
                                          exact ih (l3 + (6 : Int32)) q166.2 h
                                        · rw [if_neg c168] at h
                                          refine J_ic 670 dL_law_669 rfl (0 : Int32) kic_0 ?_
                                          exact J_zret rfl (by decide) dL_law_670 (retI h)
                                      · rw [if_neg c159] at h
                                        rcases Classical.em ((v4 &&& (63 : Int32)) = (17 : Int32)) with c170 | c170
                                        · rw [if_pos c170] at h
                                          refine J_tsC c170 671 dL_law_33 (by decide) (by decide) rfl (by decide) ?_
                                          refine J_aload_n (i := 1) 1 672 dL_law_671 rfl rfl rfl ?_
                                          obtain ⟨b172, hb172, h⟩ := some_of_bind h
                                          obtain ⟨q171, hq171, h⟩ := some_of_bind h
                                          refine J_cVi 675 dL_law_672 rfl ykX0_pass (Or.inl q1613) q1614 q1615 (Nat.le_of_ble_eq_true rfl) cs_nil (by decide) [] hb172 (by decide) rfl rfl rfl (sX0_pass hγ l1  σ q171 hq171) ?_
                                          refine J_aload_n (i := 2) 2 676 dL_law_675 rfl rfl rfl ?_
                                          obtain ⟨b174, hb174, h⟩ := some_of_bind h
                                          obtain ⟨q173, hq173, h⟩ := some_of_bind h
                                          refine J_cVi 679 dL_law_676 rfl ykX7_pass (Or.inl q2723) q2724 q2725 (Nat.le_of_ble_eq_true rfl) (cs_int cs_nil) (by decide) [] hb174 (by decide) rfl rfl rfl (sX7_pass hγ l2  q171.2 q173 hq173) ?_
                                          refine J_icmp_eq 1361 682 dL_law_679 (by decide) rfl (fun c175 => ?_) (fun c175 => ?_)
                                          · rw [if_pos c175] at h
                                            refine J_iinc (i := 3) (v := l3 + (6 : Int32)) 3 1364 [(3, 1, .int (l3 + (6 : Int32))), (0, 1, va_rf l0), (1, 1, va_rf l1), (2, 1, va_rf l2)] dL_law_1361 rfl rfl (Nat.le_of_ble_eq_true rfl) (by rw [kic_6]) rfl ?_
                                            refine J_goto 18 dL_law_1364 (by decide) ?_
                                            refine J.pick [1, 2, 3, 0] rfl ?_
                                            exact ih (l3 + (6 : Int32)) q173.2 h
                                          · rw [if_neg c175] at h
                                            refine J_ic 683 dL_law_682 rfl (0 : Int32) kic_0 ?_
                                            exact J_zret rfl (by decide) dL_law_683 (retI h)
                                        · rw [if_neg c170] at h
                                          rcases Classical.em ((v4 &&& (63 : Int32)) = (18 : Int32)) with c177 | c177
                                          · rw [if_pos c177] at h
                                            refine J_tsC c177 684 dL_law_33 (by decide) (by decide) rfl (by decide) ?_
                                            refine J_aload_n (i := 1) 1 685 dL_law_684 rfl rfl rfl ?_
                                            obtain ⟨b179, hb179, h⟩ := some_of_bind h
                                            obtain ⟨q178, hq178, h⟩ := some_of_bind h
                                            refine J_cVi 688 dL_law_685 rfl ykX0_undo (Or.inl q1630) q1631 q1632 (Nat.le_of_ble_eq_true rfl) cs_nil (by decide) [] hb179 (by decide) rfl rfl rfl (sX0_undo hγ l1  σ q178 hq178) ?_
                                            refine J_aload_n (i := 2) 2 689 dL_law_688 rfl rfl rfl ?_
                                            obtain ⟨b181, hb181, h⟩ := some_of_bind h
                                            obtain ⟨q180, hq180, h⟩ := some_of_bind h
                                            refine J_cVi 692 dL_law_689 rfl ykX7_undo (Or.inl q2683) q2684 q2685 (Nat.le_of_ble_eq_true rfl) (cs_int cs_nil) (by decide) [] hb181 (by decide) rfl rfl rfl (sX7_undo hγ l2  q178.2 q180 hq180) ?_
                                            refine J_icmp_eq 1361 695 dL_law_692 (by decide) rfl (fun c182 => ?_) (fun c182 => ?_)
                                            · rw [if_pos c182] at h
                                              refine J_iinc (i := 3) (v := l3 + (6 : Int32)) 3 1364 [(3, 1, .int (l3 + (6 : Int32))), (0, 1, va_rf l0), (1, 1, va_rf l1), (2, 1, va_rf l2)] dL_law_1361 rfl rfl (Nat.le_of_ble_eq_true rfl) (by rw [kic_6]) rfl ?_
                                              refine J_goto 18 dL_law_1364 (by decide) ?_
                                              refine J.pick [1, 2, 3, 0] rfl ?_
                                              exact ih (l3 + (6 : Int32)) q180.2 h
                                            · rw [if_neg c182] at h
                                              refine J_ic 696 dL_law_695 rfl (0 : Int32) kic_0 ?_
                                              exact J_zret rfl (by decide) dL_law_696 (retI h)
                                          · rw [if_neg c177] at h
                                            rcases Classical.em ((v4 &&& (63 : Int32)) = (19 : Int32)) with c184 | c184
                                            · rw [if_pos c184] at h
                                              refine J_tsC c184 697 dL_law_33 (by decide) (by decide) rfl (by decide) ?_
                                              refine J_aload_n (i := 1) 1 698 dL_law_697 rfl rfl rfl ?_
                                              refine J_aload_n (i := 0) 0 699 dL_law_698 rfl rfl rfl ?_
                                              refine J_iload_n (i := 3) 3 700 dL_law_699 rfl rfl rfl ?_
                                              refine J_ic 701 dL_law_700 rfl (1 : Int32) kic_1 ?_
                                              refine J_iadd 702 dL_law_701 rfl ?_
                                              obtain ⟨v185, hv185, h⟩ := some_of_bind h
                                              refine J_iald 703 dL_law_702 rfl hv185 ?_
                                              refine J_aload_n (i := 0) 0 704 dL_law_703 rfl rfl rfl ?_
                                              refine J_iload_n (i := 3) 3 705 dL_law_704 rfl rfl rfl ?_
                                              refine J_ic 706 dL_law_705 rfl (2 : Int32) kic_2 ?_
                                              refine J_iadd 707 dL_law_706 rfl ?_
                                              obtain ⟨v186, hv186, h⟩ := some_of_bind h
                                              refine J_iald 708 dL_law_707 rfl hv186 ?_
                                              obtain ⟨b188, hb188, h⟩ := some_of_bind h
                                              obtain ⟨q187, hq187, h⟩ := some_of_bind h
                                              refine J_cVi 711 dL_law_708 rfl ykX0_misses (Or.inl q1635) q1636 q1637 (Nat.le_of_ble_eq_true rfl) cs_nil (by decide) [.int v185, .int v186] hb188 (by decide) rfl rfl rfl (sX0_misses hγ l1 v185 v186 σ q187 hq187) ?_
                                              refine J_aload_n (i := 2) 2 712 dL_law_711 rfl rfl rfl ?_
                                              refine J_aload_n (i := 0) 0 713 dL_law_712 rfl rfl rfl ?_
                                              refine J_iload_n (i := 3) 3 714 dL_law_713 rfl rfl rfl ?_
                                              refine J_ic 715 dL_law_714 rfl (1 : Int32) kic_1 ?_
                                              refine J_iadd 716 dL_law_715 rfl ?_
                                              obtain ⟨v189, hv189, h⟩ := some_of_bind h
                                              refine J_iald 717 dL_law_716 rfl hv189 ?_
                                              refine J_aload_n (i := 0) 0 718 dL_law_717 rfl rfl rfl ?_
                                              refine J_iload_n (i := 3) 3 719 dL_law_718 rfl rfl rfl ?_
                                              refine J_ic 720 dL_law_719 rfl (2 : Int32) kic_2 ?_
                                              refine J_iadd 721 dL_law_720 rfl ?_
                                              obtain ⟨v190, hv190, h⟩ := some_of_bind h
                                              refine J_iald 722 dL_law_721 rfl hv190 ?_
                                              obtain ⟨b192, hb192, h⟩ := some_of_bind h
                                              obtain ⟨q191, hq191, h⟩ := some_of_bind h
                                              refine J_cVi 725 dL_law_722 rfl ykX7_misses (Or.inl q2736) q2737 q2738 (Nat.le_of_ble_eq_true rfl) (cs_int cs_nil) (by decide) [.int v189, .int v190] hb192 (by decide) rfl rfl rfl (sX7_misses hγ l2 v189 v190 q187.2 q191 hq191) ?_
                                              refine J_icmp_eq 1361 728 dL_law_725 (by decide) rfl (fun c193 => ?_) (fun c193 => ?_)
                                              · rw [if_pos c193] at h
                                                refine J_iinc (i := 3) (v := l3 + (6 : Int32)) 3 1364 [(3, 1, .int (l3 + (6 : Int32))), (0, 1, va_rf l0), (1, 1, va_rf l1), (2, 1, va_rf l2)] dL_law_1361 rfl rfl (Nat.le_of_ble_eq_true rfl) (by rw [kic_6]) rfl ?_
                                                refine J_goto 18 dL_law_1364 (by decide) ?_
                                                refine J.pick [1, 2, 3, 0] rfl ?_
                                                exact ih (l3 + (6 : Int32)) q191.2 h
                                              · rw [if_neg c193] at h
                                                refine J_ic 729 dL_law_728 rfl (0 : Int32) kic_0 ?_
                                                exact J_zret rfl (by decide) dL_law_729 (retI h)
                                            · rw [if_neg c184] at h
                                              rcases Classical.em ((v4 &&& (63 : Int32)) = (20 : Int32)) with c195 | c195
                                              · rw [if_pos c195] at h
                                                refine J_tsC c195 730 dL_law_33 (by decide) (by decide) rfl (by decide) ?_
                                                refine J_aload_n (i := 1) 1 731 dL_law_730 rfl rfl rfl ?_
                                                refine J_aload_n (i := 0) 0 732 dL_law_731 rfl rfl rfl ?_
                                                refine J_iload_n (i := 3) 3 733 dL_law_732 rfl rfl rfl ?_
                                                refine J_ic 734 dL_law_733 rfl (1 : Int32) kic_1 ?_
                                                refine J_iadd 735 dL_law_734 rfl ?_
                                                obtain ⟨v196, hv196, h⟩ := some_of_bind h
                                                refine J_iald 736 dL_law_735 rfl hv196 ?_
                                                refine J_aload_n (i := 0) 0 737 dL_law_736 rfl rfl rfl ?_
                                                refine J_iload_n (i := 3) 3 738 dL_law_737 rfl rfl rfl ?_
                                                refine J_ic 739 dL_law_738 rfl (2 : Int32) kic_2 ?_
                                                refine J_iadd 740 dL_law_739 rfl ?_
                                                obtain ⟨v197, hv197, h⟩ := some_of_bind h
                                                refine J_iald 741 dL_law_740 rfl hv197 ?_
                                                obtain ⟨b199, hb199, h⟩ := some_of_bind h
                                                obtain ⟨q198, hq198, h⟩ := some_of_bind h
                                                refine J_cVl 744 dL_law_741 rfl ykX0_hull (Or.inl q1647) q1648 q1649 (Nat.le_of_ble_eq_true rfl) cs_nil (by decide) [.int v196, .int v197] hb199 (by decide) rfl rfl rfl (sX0_hull hγ l1 v196 v197 σ q198 hq198) ?_
                                                refine J_aload_n (i := 2) 2 745 dL_law_744 rfl rfl rfl ?_
                                                refine J_aload_n (i := 0) 0 746 dL_law_745 rfl rfl rfl ?_
                                                refine J_iload_n (i := 3) 3 747 dL_law_746 rfl rfl rfl ?_
                                                refine J_ic 748 dL_law_747 rfl (1 : Int32) kic_1 ?_
                                                refine J_iadd 749 dL_law_748 rfl ?_
                                                obtain ⟨v200, hv200, h⟩ := some_of_bind h
                                                refine J_iald 750 dL_law_749 rfl hv200 ?_
                                                refine J_aload_n (i := 0) 0 751 dL_law_750 rfl rfl rfl ?_
                                                refine J_iload_n (i := 3) 3 752 dL_law_751 rfl rfl rfl ?_
                                                refine J_ic 753 dL_law_752 rfl (2 : Int32) kic_2 ?_
                                                refine J_iadd 754 dL_law_753 rfl ?_
                                                obtain ⟨v201, hv201, h⟩ := some_of_bind h
                                                refine J_iald 755 dL_law_754 rfl hv201 ?_
                                                obtain ⟨b203, hb203, h⟩ := some_of_bind h
                                                obtain ⟨q202, hq202, h⟩ := some_of_bind h
                                                refine J_cVl 758 dL_law_755 rfl ykX7_hull (Or.inl q2751) q2752 q2753 (Nat.le_of_ble_eq_true rfl) (cs_long cs_nil) (by decide) [.int v200, .int v201] hb203 (by decide) rfl rfl rfl (sX7_hull hγ l2 v200 v201 q198.2 q202 hq202) ?_
                                                refine J_lcmp 759 dL_law_758 rfl ?_
                                                refine J_if_eq 1361 762 dL_law_759 (by decide) rfl (fun c204 => ?_) (fun c204 => ?_)
                                                · rw [if_pos c204] at h
                                                  refine J_iinc (i := 3) (v := l3 + (6 : Int32)) 3 1364 [(3, 1, .int (l3 + (6 : Int32))), (0, 1, va_rf l0), (1, 1, va_rf l1), (2, 1, va_rf l2)] dL_law_1361 rfl rfl (Nat.le_of_ble_eq_true rfl) (by rw [kic_6]) rfl ?_
                                                  refine J_goto 18 dL_law_1364 (by decide) ?_
                                                  refine J.pick [1, 2, 3, 0] rfl ?_
                                                  exact ih (l3 + (6 : Int32)) q202.2 h
                                                · rw [if_neg c204] at h
                                                  refine J_ic 763 dL_law_762 rfl (0 : Int32) kic_0 ?_
                                                  exact J_zret rfl (by decide) dL_law_763 (retI h)
                                              · rw [if_neg c195] at h
                                                rcases Classical.em ((v4 &&& (63 : Int32)) = (21 : Int32)) with c206 | c206
                                                · rw [if_pos c206] at h
                                                  refine J_tsC c206 764 dL_law_33 (by decide) (by decide) rfl (by decide) ?_
                                                  refine J_aload_n (i := 1) 1 765 dL_law_764 rfl rfl rfl ?_
                                                  refine J_aload_n (i := 0) 0 766 dL_law_765 rfl rfl rfl ?_
                                                  refine J_iload_n (i := 3) 3 767 dL_law_766 rfl rfl rfl ?_
                                                  refine J_ic 768 dL_law_767 rfl (1 : Int32) kic_1 ?_
                                                  refine J_iadd 769 dL_law_768 rfl ?_
                                                  obtain ⟨v207, hv207, h⟩ := some_of_bind h
                                                  refine J_iald 770 dL_law_769 rfl hv207 ?_
                                                  refine J_aload_n (i := 0) 0 771 dL_law_770 rfl rfl rfl ?_
                                                  refine J_iload_n (i := 3) 3 772 dL_law_771 rfl rfl rfl ?_
                                                  refine J_ic 773 dL_law_772 rfl (2 : Int32) kic_2 ?_
                                                  refine J_iadd 774 dL_law_773 rfl ?_
                                                  obtain ⟨v208, hv208, h⟩ := some_of_bind h
                                                  refine J_iald 775 dL_law_774 rfl hv208 ?_
                                                  obtain ⟨b210, hb210, h⟩ := some_of_bind h
                                                  obtain ⟨q209, hq209, h⟩ := some_of_bind h
                                                  refine J_cVi 778 dL_law_775 rfl ykX0_bend (Or.inl q1665) q1666 q1667 (Nat.le_of_ble_eq_true rfl) cs_nil (by decide) [.int v207, .int v208] hb210 (by decide) rfl rfl rfl (sX0_bend hγ l1 v207 v208 σ q209 hq209) ?_
                                                  refine J_aload_n (i := 2) 2 779 dL_law_778 rfl rfl rfl ?_
                                                  refine J_aload_n (i := 0) 0 780 dL_law_779 rfl rfl rfl ?_
                                                  refine J_iload_n (i := 3) 3 781 dL_law_780 rfl rfl rfl ?_
                                                  refine J_ic 782 dL_law_781 rfl (1 : Int32) kic_1 ?_
                                                  refine J_iadd 783 dL_law_782 rfl ?_
                                                  obtain ⟨v211, hv211, h⟩ := some_of_bind h
                                                  refine J_iald 784 dL_law_783 rfl hv211 ?_
                                                  refine J_aload_n (i := 0) 0 785 dL_law_784 rfl rfl rfl ?_
                                                  refine J_iload_n (i := 3) 3 786 dL_law_785 rfl rfl rfl ?_
                                                  refine J_ic 787 dL_law_786 rfl (2 : Int32) kic_2 ?_
                                                  refine J_iadd 788 dL_law_787 rfl ?_
                                                  obtain ⟨v212, hv212, h⟩ := some_of_bind h
                                                  refine J_iald 789 dL_law_788 rfl hv212 ?_
                                                  obtain ⟨b214, hb214, h⟩ := some_of_bind h
                                                  obtain ⟨q213, hq213, h⟩ := some_of_bind h
                                                  refine J_cVi 792 dL_law_789 rfl ykX7_bend (Or.inl q2761) q2762 q2763 (Nat.le_of_ble_eq_true rfl) (cs_int cs_nil) (by decide) [.int v211, .int v212] hb214 (by decide) rfl rfl rfl (sX7_bend hγ l2 v211 v212 q209.2 q213 hq213) ?_
                                                  refine J_icmp_eq 1361 795 dL_law_792 (by decide) rfl (fun c215 => ?_) (fun c215 => ?_)
                                                  · rw [if_pos c215] at h
                                                    refine J_iinc (i := 3) (v := l3 + (6 : Int32)) 3 1364 [(3, 1, .int (l3 + (6 : Int32))), (0, 1, va_rf l0), (1, 1, va_rf l1), (2, 1, va_rf l2)] dL_law_1361 rfl rfl (Nat.le_of_ble_eq_true rfl) (by rw [kic_6]) rfl ?_
                                                    refine J_goto 18 dL_law_1364 (by decide) ?_
                                                    refine J.pick [1, 2, 3, 0] rfl ?_
                                                    exact ih (l3 + (6 : Int32)) q213.2 h
                                                  · rw [if_neg c215] at h
                                                    refine J_ic 796 dL_law_795 rfl (0 : Int32) kic_0 ?_
                                                    exact J_zret rfl (by decide) dL_law_796 (retI h)
                                                · rw [if_neg c206] at h
                                                  rcases Classical.em ((v4 &&& (63 : Int32)) = (22 : Int32)) with c217 | c217
                                                  · rw [if_pos c217] at h
                                                    refine J_tsC c217 797 dL_law_33 (by decide) (by decide) rfl (by decide) ?_
                                                    refine J_aload_n (i := 1) 1 798 dL_law_797 rfl rfl rfl ?_
                                                    refine J_aload_n (i := 0) 0 799 dL_law_798 rfl rfl rfl ?_
                                                    refine J_iload_n (i := 3) 3 800 dL_law_799 rfl rfl rfl ?_
                                                    refine J_ic 801 dL_law_800 rfl (1 : Int32) kic_1 ?_
                                                    refine J_iadd 802 dL_law_801 rfl ?_
                                                    obtain ⟨v218, hv218, h⟩ := some_of_bind h
                                                    refine J_iald 803 dL_law_802 rfl hv218 ?_
                                                    obtain ⟨b220, hb220, h⟩ := some_of_bind h
                                                    obtain ⟨q219, hq219, h⟩ := some_of_bind h
                                                    refine J_cVi 806 dL_law_803 rfl ykX0_report (Or.inl q1669) q1670 q1671 (Nat.le_of_ble_eq_true rfl) cs_nil (by decide) [.int v218] hb220 (by decide) rfl rfl rfl (sX0_report hγ l1 v218 σ q219 hq219) ?_
                                                    refine J_aload_n (i := 2) 2 807 dL_law_806 rfl rfl rfl ?_
                                                    refine J_aload_n (i := 0) 0 808 dL_law_807 rfl rfl rfl ?_
                                                    refine J_iload_n (i := 3) 3 809 dL_law_808 rfl rfl rfl ?_
                                                    refine J_ic 810 dL_law_809 rfl (1 : Int32) kic_1 ?_
                                                    refine J_iadd 811 dL_law_810 rfl ?_
                                                    obtain ⟨v221, hv221, h⟩ := some_of_bind h
                                                    refine J_iald 812 dL_law_811 rfl hv221 ?_
                                                    obtain ⟨b223, hb223, h⟩ := some_of_bind h
                                                    obtain ⟨q222, hq222, h⟩ := some_of_bind h
                                                    refine J_cVi 815 dL_law_812 rfl ykX7_report (Or.inl q2773) q2774 q2775 (Nat.le_of_ble_eq_true rfl) (cs_int cs_nil) (by decide) [.int v221] hb223 (by decide) rfl rfl rfl (sX7_report hγ l2 v221 q219.2 q222 hq222) ?_
                                                    refine J_icmp_eq 1361 818 dL_law_815 (by decide) rfl (fun c224 => ?_) (fun c224 => ?_)
                                                    · rw [if_pos c224] at h
                                                      refine J_iinc (i := 3) (v := l3 + (6 : Int32)) 3 1364 [(3, 1, .int (l3 + (6 : Int32))), (0, 1, va_rf l0), (1, 1, va_rf l1), (2, 1, va_rf l2)] dL_law_1361 rfl rfl (Nat.le_of_ble_eq_true rfl) (by rw [kic_6]) rfl ?_
                                                      refine J_goto 18 dL_law_1364 (by decide) ?_
                                                      refine J.pick [1, 2, 3, 0] rfl ?_
                                                      exact ih (l3 + (6 : Int32)) q222.2 h
                                                    · rw [if_neg c224] at h
                                                      refine J_ic 819 dL_law_818 rfl (0 : Int32) kic_0 ?_
                                                      exact J_zret rfl (by decide) dL_law_819 (retI h)
                                                  · rw [if_neg c217] at h
                                                    rcases Classical.em ((v4 &&& (63 : Int32)) = (23 : Int32)) with c226 | c226
                                                    · rw [if_pos c226] at h
                                                      refine J_tsC c226 820 dL_law_33 (by decide) (by decide) rfl (by decide) ?_
                                                      refine J_aload_n (i := 1) 1 821 dL_law_820 rfl rfl rfl ?_
                                                      refine J_aload_n (i := 0) 0 822 dL_law_821 rfl rfl rfl ?_
                                                      refine J_iload_n (i := 3) 3 823 dL_law_822 rfl rfl rfl ?_
                                                      refine J_ic 824 dL_law_823 rfl (1 : Int32) kic_1 ?_
                                                      refine J_iadd 825 dL_law_824 rfl ?_
                                                      obtain ⟨v227, hv227, h⟩ := some_of_bind h
                                                      refine J_iald 826 dL_law_825 rfl hv227 ?_
                                                      obtain ⟨b229, hb229, h⟩ := some_of_bind h
                                                      obtain ⟨q228, hq228, h⟩ := some_of_bind h
                                                      refine J_cVi 829 dL_law_826 rfl ykX0_sign (Or.inl q1806) q1807 q1808 (Nat.le_of_ble_eq_true rfl) cs_nil (by decide) [.int v227] hb229 (by decide) rfl rfl rfl (sX0_sign hγ l1 v227 σ q228 hq228) ?_
                                                      refine J_aload_n (i := 2) 2 830 dL_law_829 rfl rfl rfl ?_
                                                      refine J_aload_n (i := 0) 0 831 dL_law_830 rfl rfl rfl ?_
                                                      refine J_iload_n (i := 3) 3 832 dL_law_831 rfl rfl rfl ?_
                                                      refine J_ic 833 dL_law_832 rfl (1 : Int32) kic_1 ?_
                                                      refine J_iadd 834 dL_law_833 rfl ?_
                                                      obtain ⟨v230, hv230, h⟩ := some_of_bind h
                                                      refine J_iald 835 dL_law_834 rfl hv230 ?_
                                                      obtain ⟨b232, hb232, h⟩ := some_of_bind h
                                                      obtain ⟨q231, hq231, h⟩ := some_of_bind h
                                                      refine J_cVi 838 dL_law_835 rfl ykX7_sign (Or.inl q2785) q2786 q2787 (Nat.le_of_ble_eq_true rfl) (cs_int cs_nil) (by decide) [.int v230] hb232 (by decide) rfl rfl rfl (sX7_sign hγ l2 v230 q228.2 q231 hq231) ?_
                                                      refine J_icmp_eq 1361 841 dL_law_838 (by decide) rfl (fun c233 => ?_) (fun c233 => ?_)
                                                      · rw [if_pos c233] at h
                                                        refine J_iinc (i := 3) (v := l3 + (6 : Int32)) 3 1364 [(3, 1, .int (l3 + (6 : Int32))), (0, 1, va_rf l0), (1, 1, va_rf l1), (2, 1, va_rf l2)] dL_law_1361 rfl rfl (Nat.le_of_ble_eq_true rfl) (by rw [kic_6]) rfl ?_
                                                        refine J_goto 18 dL_law_1364 (by decide) ?_
                                                        refine J.pick [1, 2, 3, 0] rfl ?_
                                                        exact ih (l3 + (6 : Int32)) q231.2 h
                                                      · rw [if_neg c233] at h
                                                        refine J_ic 842 dL_law_841 rfl (0 : Int32) kic_0 ?_
                                                        exact J_zret rfl (by decide) dL_law_842 (retI h)
                                                    · rw [if_neg c226] at h
                                                      rcases Classical.em ((v4 &&& (63 : Int32)) = (24 : Int32)) with c235 | c235
                                                      · rw [if_pos c235] at h
                                                        refine J_tsC c235 843 dL_law_33 (by decide) (by decide) rfl (by decide) ?_
                                                        refine J_aload_n (i := 1) 1 844 dL_law_843 rfl rfl rfl ?_
                                                        refine J_aload_n (i := 0) 0 845 dL_law_844 rfl rfl rfl ?_
                                                        refine J_iload_n (i := 3) 3 846 dL_law_845 rfl rfl rfl ?_
                                                        refine J_ic 847 dL_law_846 rfl (1 : Int32) kic_1 ?_
                                                        refine J_iadd 848 dL_law_847 rfl ?_
                                                        obtain ⟨v236, hv236, h⟩ := some_of_bind h
                                                        refine J_iald 849 dL_law_848 rfl hv236 ?_
                                                        refine J_aload_n (i := 0) 0 850 dL_law_849 rfl rfl rfl ?_
                                                        refine J_iload_n (i := 3) 3 851 dL_law_850 rfl rfl rfl ?_
                                                        refine J_ic 852 dL_law_851 rfl (2 : Int32) kic_2 ?_
                                                        refine J_iadd 853 dL_law_852 rfl ?_
                                                        obtain ⟨v237, hv237, h⟩ := some_of_bind h
                                                        refine J_iald 854 dL_law_853 rfl hv237 ?_
                                                        obtain ⟨b239, hb239, h⟩ := some_of_bind h
                                                        obtain ⟨q238, hq238, h⟩ := some_of_bind h
                                                        refine J_cVi 857 dL_law_854 rfl ykX0_guess (Or.inl q1811) q1812 q1813 (Nat.le_of_ble_eq_true rfl) cs_nil (by decide) [.int v236, .int v237] hb239 (by decide) rfl rfl rfl (sX0_guess hγ l1 v236 v237 σ q238 hq238) ?_
                                                        refine J_aload_n (i := 2) 2 858 dL_law_857 rfl rfl rfl ?_
                                                        refine J_aload_n (i := 0) 0 859 dL_law_858 rfl rfl rfl ?_
                                                        refine J_iload_n (i := 3) 3 860 dL_law_859 rfl rfl rfl ?_
                                                        refine J_ic 861 dL_law_860 rfl (1 : Int32) kic_1 ?_
                                                        refine J_iadd 862 dL_law_861 rfl ?_
                                                        obtain ⟨v240, hv240, h⟩ := some_of_bind h
                                                        refine J_iald 863 dL_law_862 rfl hv240 ?_
                                                        refine J_aload_n (i := 0) 0 864 dL_law_863 rfl rfl rfl ?_
                                                        refine J_iload_n (i := 3) 3 865 dL_law_864 rfl rfl rfl ?_
                                                        refine J_ic 866 dL_law_865 rfl (2 : Int32) kic_2 ?_
                                                        refine J_iadd 867 dL_law_866 rfl ?_
                                                        obtain ⟨v241, hv241, h⟩ := some_of_bind h
                                                        refine J_iald 868 dL_law_867 rfl hv241 ?_
                                                        obtain ⟨b243, hb243, h⟩ := some_of_bind h
                                                        obtain ⟨q242, hq242, h⟩ := some_of_bind h
                                                        refine J_cVi 871 dL_law_868 rfl ykX7_guess (Or.inl q2789) q2790 q2791 (Nat.le_of_ble_eq_true rfl) (cs_int cs_nil) (by decide) [.int v240, .int v241] hb243 (by decide) rfl rfl rfl (sX7_guess hγ l2 v240 v241 q238.2 q242 hq242) ?_
                                                        refine J_icmp_eq 1361 874 dL_law_871 (by decide) rfl (fun c244 => ?_) (fun c244 => ?_)
                                                        · rw [if_pos c244] at h
                                                          refine J_iinc (i := 3) (v := l3 + (6 : Int32)) 3 1364 [(3, 1, .int (l3 + (6 : Int32))), (0, 1, va_rf l0), (1, 1, va_rf l1), (2, 1, va_rf l2)] dL_law_1361 rfl rfl (Nat.le_of_ble_eq_true rfl) (by rw [kic_6]) rfl ?_
                                                          refine J_goto 18 dL_law_1364 (by decide) ?_
                                                          refine J.pick [1, 2, 3, 0] rfl ?_
                                                          exact ih (l3 + (6 : Int32)) q242.2 h
                                                        · rw [if_neg c244] at h
                                                          refine J_ic 875 dL_law_874 rfl (0 : Int32) kic_0 ?_
                                                          exact J_zret rfl (by decide) dL_law_875 (retI h)
                                                      · rw [if_neg c235] at h
                                                        rcases Classical.em ((v4 &&& (63 : Int32)) = (25 : Int32)) with c246 | c246
                                                        · rw [if_pos c246] at h
                                                          refine J_tsC c246 876 dL_law_33 (by decide) (by decide) rfl (by decide) ?_
                                                          refine J_aload_n (i := 1) 1 877 dL_law_876 rfl rfl rfl ?_
                                                          refine J_aload_n (i := 0) 0 878 dL_law_877 rfl rfl rfl ?_
                                                          refine J_iload_n (i := 3) 3 879 dL_law_878 rfl rfl rfl ?_
                                                          refine J_ic 880 dL_law_879 rfl (1 : Int32) kic_1 ?_
                                                          refine J_iadd 881 dL_law_880 rfl ?_
                                                          obtain ⟨v247, hv247, h⟩ := some_of_bind h
                                                          refine J_iald 882 dL_law_881 rfl hv247 ?_
                                                          refine J_aload_n (i := 0) 0 883 dL_law_882 rfl rfl rfl ?_
                                                          refine J_iload_n (i := 3) 3 884 dL_law_883 rfl rfl rfl ?_
                                                          refine J_ic 885 dL_law_884 rfl (2 : Int32) kic_2 ?_
                                                          refine J_iadd 886 dL_law_885 rfl ?_
                                                          obtain ⟨v248, hv248, h⟩ := some_of_bind h
                                                          refine J_iald 887 dL_law_886 rfl hv248 ?_
                                                          obtain ⟨b250, hb250, h⟩ := some_of_bind h
                                                          obtain ⟨q249, hq249, h⟩ := some_of_bind h
                                                          refine J_cVi 890 dL_law_887 rfl ykX0_salted (Or.inl q1817) q1818 q1819 (Nat.le_of_ble_eq_true rfl) cs_nil (by decide) [.int v247, .int v248] hb250 (by decide) rfl rfl rfl (sX0_salted hγ l1 v247 v248 σ q249 hq249) ?_
                                                          refine J_aload_n (i := 2) 2 891 dL_law_890 rfl rfl rfl ?_
                                                          refine J_aload_n (i := 0) 0 892 dL_law_891 rfl rfl rfl ?_
                                                          refine J_iload_n (i := 3) 3 893 dL_law_892 rfl rfl rfl ?_
                                                          refine J_ic 894 dL_law_893 rfl (1 : Int32) kic_1 ?_
                                                          refine J_iadd 895 dL_law_894 rfl ?_
                                                          obtain ⟨v251, hv251, h⟩ := some_of_bind h
                                                          refine J_iald 896 dL_law_895 rfl hv251 ?_
                                                          refine J_aload_n (i := 0) 0 897 dL_law_896 rfl rfl rfl ?_
                                                          refine J_iload_n (i := 3) 3 898 dL_law_897 rfl rfl rfl ?_
                                                          refine J_ic 899 dL_law_898 rfl (2 : Int32) kic_2 ?_
                                                          refine J_iadd 900 dL_law_899 rfl ?_
                                                          obtain ⟨v252, hv252, h⟩ := some_of_bind h
                                                          refine J_iald 901 dL_law_900 rfl hv252 ?_
                                                          obtain ⟨b254, hb254, h⟩ := some_of_bind h
                                                          obtain ⟨q253, hq253, h⟩ := some_of_bind h
                                                          refine J_cVi 904 dL_law_901 rfl ykX7_salted (Or.inl q2795) q2796 q2797 (Nat.le_of_ble_eq_true rfl) (cs_int cs_nil) (by decide) [.int v251, .int v252] hb254 (by decide) rfl rfl rfl (sX7_salted hγ l2 v251 v252 q249.2 q253 hq253) ?_
                                                          refine J_icmp_eq 1361 907 dL_law_904 (by decide) rfl (fun c255 => ?_) (fun c255 => ?_)
                                                          · rw [if_pos c255] at h
                                                            refine J_iinc (i := 3) (v := l3 + (6 : Int32)) 3 1364 [(3, 1, .int (l3 + (6 : Int32))), (0, 1, va_rf l0), (1, 1, va_rf l1), (2, 1, va_rf l2)] dL_law_1361 rfl rfl (Nat.le_of_ble_eq_true rfl) (by rw [kic_6]) rfl ?_
                                                            refine J_goto 18 dL_law_1364 (by decide) ?_
                                                            refine J.pick [1, 2, 3, 0] rfl ?_
                                                            exact ih (l3 + (6 : Int32)) q253.2 h
                                                          · rw [if_neg c255] at h
                                                            refine J_ic 908 dL_law_907 rfl (0 : Int32) kic_0 ?_
                                                            exact J_zret rfl (by decide) dL_law_908 (retI h)
                                                        · rw [if_neg c246] at h
                                                          rcases Classical.em ((v4 &&& (63 : Int32)) = (26 : Int32)) with c257 | c257
                                                          · rw [if_pos c257] at h
                                                            refine J_tsC c257 909 dL_law_33 (by decide) (by decide) rfl (by decide) ?_
                                                            refine J_aload_n (i := 1) 1 910 dL_law_909 rfl rfl rfl ?_
                                                            refine J_aload_n (i := 0) 0 911 dL_law_910 rfl rfl rfl ?_
                                                            refine J_iload_n (i := 3) 3 912 dL_law_911 rfl rfl rfl ?_
                                                            refine J_ic 913 dL_law_912 rfl (1 : Int32) kic_1 ?_
                                                            refine J_iadd 914 dL_law_913 rfl ?_
                                                            obtain ⟨v258, hv258, h⟩ := some_of_bind h
                                                            refine J_iald 915 dL_law_914 rfl hv258 ?_
                                                            refine J_aload_n (i := 0) 0 916 dL_law_915 rfl rfl rfl ?_
                                                            refine J_iload_n (i := 3) 3 917 dL_law_916 rfl rfl rfl ?_
                                                            refine J_ic 918 dL_law_917 rfl (2 : Int32) kic_2 ?_
                                                            refine J_iadd 919 dL_law_918 rfl ?_
                                                            obtain ⟨v259, hv259, h⟩ := some_of_bind h
                                                            refine J_iald 920 dL_law_919 rfl hv259 ?_
                                                            obtain ⟨b261, hb261, h⟩ := some_of_bind h
                                                            obtain ⟨q260, hq260, h⟩ := some_of_bind h
                                                            refine J_cVi 923 dL_law_920 rfl ykX0_share (Or.inl q1821) q1822 q1823 (Nat.le_of_ble_eq_true rfl) cs_nil (by decide) [.int v258, .int v259] hb261 (by decide) rfl rfl rfl (sX0_share hγ l1 v258 v259 σ q260 hq260) ?_
                                                            refine J_aload_n (i := 2) 2 924 dL_law_923 rfl rfl rfl ?_
                                                            refine J_aload_n (i := 0) 0 925 dL_law_924 rfl rfl rfl ?_
                                                            refine J_iload_n (i := 3) 3 926 dL_law_925 rfl rfl rfl ?_
                                                            refine J_ic 927 dL_law_926 rfl (1 : Int32) kic_1 ?_
                                                            refine J_iadd 928 dL_law_927 rfl ?_
                                                            obtain ⟨v262, hv262, h⟩ := some_of_bind h
                                                            refine J_iald 929 dL_law_928 rfl hv262 ?_
                                                            refine J_aload_n (i := 0) 0 930 dL_law_929 rfl rfl rfl ?_
                                                            refine J_iload_n (i := 3) 3 931 dL_law_930 rfl rfl rfl ?_
                                                            refine J_ic 932 dL_law_931 rfl (2 : Int32) kic_2 ?_
                                                            refine J_iadd 933 dL_law_932 rfl ?_
                                                            obtain ⟨v263, hv263, h⟩ := some_of_bind h
                                                            refine J_iald 934 dL_law_933 rfl hv263 ?_
                                                            obtain ⟨b265, hb265, h⟩ := some_of_bind h
                                                            obtain ⟨q264, hq264, h⟩ := some_of_bind h
                                                            refine J_cVi 937 dL_law_934 rfl ykX7_share (Or.inl q2799) q2800 q2801 (Nat.le_of_ble_eq_true rfl) (cs_int cs_nil) (by decide) [.int v262, .int v263] hb265 (by decide) rfl rfl rfl (sX7_share hγ l2 v262 v263 q260.2 q264 hq264) ?_
                                                            refine J_icmp_eq 1361 940 dL_law_937 (by decide) rfl (fun c266 => ?_) (fun c266 => ?_)
                                                            · rw [if_pos c266] at h
                                                              refine J_iinc (i := 3) (v := l3 + (6 : Int32)) 3 1364 [(3, 1, .int (l3 + (6 : Int32))), (0, 1, va_rf l0), (1, 1, va_rf l1), (2, 1, va_rf l2)] dL_law_1361 rfl rfl (Nat.le_of_ble_eq_true rfl) (by rw [kic_6]) rfl ?_
                                                              refine J_goto 18 dL_law_1364 (by decide) ?_
                                                              refine J.pick [1, 2, 3, 0] rfl ?_
                                                              exact ih (l3 + (6 : Int32)) q264.2 h
                                                            · rw [if_neg c266] at h
                                                              refine J_ic 941 dL_law_940 rfl (0 : Int32) kic_0 ?_
                                                              exact J_zret rfl (by decide) dL_law_941 (retI h)
                                                          · rw [if_neg c257] at h
                                                            rcases Classical.em ((v4 &&& (63 : Int32)) = (27 : Int32)) with c268 | c268
                                                            · rw [if_pos c268] at h
                                                              refine J_tsC c268 942 dL_law_33 (by decide) (by decide) rfl (by decide) ?_
                                                              refine J_aload_n (i := 1) 1 943 dL_law_942 rfl rfl rfl ?_
                                                              refine J_aload_n (i := 0) 0 944 dL_law_943 rfl rfl rfl ?_
                                                              refine J_iload_n (i := 3) 3 945 dL_law_944 rfl rfl rfl ?_
                                                              refine J_ic 946 dL_law_945 rfl (1 : Int32) kic_1 ?_
                                                              refine J_iadd 947 dL_law_946 rfl ?_
                                                              obtain ⟨v269, hv269, h⟩ := some_of_bind h
                                                              refine J_iald 948 dL_law_947 rfl hv269 ?_
                                                              refine J_aload_n (i := 0) 0 949 dL_law_948 rfl rfl rfl ?_
                                                              refine J_iload_n (i := 3) 3 950 dL_law_949 rfl rfl rfl ?_
                                                              refine J_ic 951 dL_law_950 rfl (2 : Int32) kic_2 ?_
                                                              refine J_iadd 952 dL_law_951 rfl ?_
                                                              obtain ⟨v270, hv270, h⟩ := some_of_bind h
                                                              refine J_iald 953 dL_law_952 rfl hv270 ?_
                                                              obtain ⟨b272, hb272, h⟩ := some_of_bind h
                                                              obtain ⟨q271, hq271, h⟩ := some_of_bind h
                                                              refine J_cVi 956 dL_law_953 rfl ykX0_best (Or.inl q1833) q1834 q1835 (Nat.le_of_ble_eq_true rfl) cs_nil (by decide) [.int v269, .int v270] hb272 (by decide) rfl rfl rfl (sX0_best hγ l1 v269 v270 σ q271 hq271) ?_
                                                              refine J_aload_n (i := 2) 2 957 dL_law_956 rfl rfl rfl ?_
                                                              refine J_aload_n (i := 0) 0 958 dL_law_957 rfl rfl rfl ?_
                                                              refine J_iload_n (i := 3) 3 959 dL_law_958 rfl rfl rfl ?_
                                                              refine J_ic 960 dL_law_959 rfl (1 : Int32) kic_1 ?_
                                                              refine J_iadd 961 dL_law_960 rfl ?_
                                                              obtain ⟨v273, hv273, h⟩ := some_of_bind h
                                                              refine J_iald 962 dL_law_961 rfl hv273 ?_
                                                              refine J_aload_n (i := 0) 0 963 dL_law_962 rfl rfl rfl ?_
                                                              refine J_iload_n (i := 3) 3 964 dL_law_963 rfl rfl rfl ?_
                                                              refine J_ic 965 dL_law_964 rfl (2 : Int32) kic_2 ?_
                                                              refine J_iadd 966 dL_law_965 rfl ?_
                                                              obtain ⟨v274, hv274, h⟩ := some_of_bind h
                                                              refine J_iald 967 dL_law_966 rfl hv274 ?_
                                                              obtain ⟨b276, hb276, h⟩ := some_of_bind h
                                                              obtain ⟨q275, hq275, h⟩ := some_of_bind h
                                                              refine J_cVi 970 dL_law_967 rfl ykX7_best (Or.inl q2811) q2812 q2813 (Nat.le_of_ble_eq_true rfl) (cs_int cs_nil) (by decide) [.int v273, .int v274] hb276 (by decide) rfl rfl rfl (sX7_best hγ l2 v273 v274 q271.2 q275 hq275) ?_
                                                              refine J_icmp_eq 1361 973 dL_law_970 (by decide) rfl (fun c277 => ?_) (fun c277 => ?_)
                                                              · rw [if_pos c277] at h
                                                                refine J_iinc (i := 3) (v := l3 + (6 : Int32)) 3 1364 [(3, 1, .int (l3 + (6 : Int32))), (0, 1, va_rf l0), (1, 1, va_rf l1), (2, 1, va_rf l2)] dL_law_1361 rfl rfl (Nat.le_of_ble_eq_true rfl) (by rw [kic_6]) rfl ?_
                                                                refine J_goto 18 dL_law_1364 (by decide) ?_
                                                                refine J.pick [1, 2, 3, 0] rfl ?_
                                                                exact ih (l3 + (6 : Int32)) q275.2 h
                                                              · rw [if_neg c277] at h
                                                                refine J_ic 974 dL_law_973 rfl (0 : Int32) kic_0 ?_
                                                                exact J_zret rfl (by decide) dL_law_974 (retI h)
                                                            · rw [if_neg c268] at h
                                                              rcases Classical.em ((v4 &&& (63 : Int32)) = (28 : Int32)) with c279 | c279
                                                              · rw [if_pos c279] at h
                                                                refine J_tsC c279 975 dL_law_33 (by decide) (by decide) rfl (by decide) ?_
                                                                refine J_aload_n (i := 1) 1 976 dL_law_975 rfl rfl rfl ?_
                                                                refine J_aload_n (i := 0) 0 977 dL_law_976 rfl rfl rfl ?_
                                                                refine J_iload_n (i := 3) 3 978 dL_law_977 rfl rfl rfl ?_
                                                                refine J_ic 979 dL_law_978 rfl (1 : Int32) kic_1 ?_
                                                                refine J_iadd 980 dL_law_979 rfl ?_
                                                                obtain ⟨v280, hv280, h⟩ := some_of_bind h
                                                                refine J_iald 981 dL_law_980 rfl hv280 ?_
                                                                refine J_aload_n (i := 0) 0 982 dL_law_981 rfl rfl rfl ?_
                                                                refine J_iload_n (i := 3) 3 983 dL_law_982 rfl rfl rfl ?_
                                                                refine J_ic 984 dL_law_983 rfl (2 : Int32) kic_2 ?_
                                                                refine J_iadd 985 dL_law_984 rfl ?_
                                                                obtain ⟨v281, hv281, h⟩ := some_of_bind h
                                                                refine J_iald 986 dL_law_985 rfl hv281 ?_
                                                                obtain ⟨b283, hb283, h⟩ := some_of_bind h
                                                                obtain ⟨q282, hq282, h⟩ := some_of_bind h
                                                                refine J_cVi 989 dL_law_986 rfl ykX0_replay (Or.inl q1842) q1843 q1844 (Nat.le_of_ble_eq_true rfl) cs_nil (by decide) [.int v280, .int v281] hb283 (by decide) rfl rfl rfl (sX0_replay hγ l1 v280 v281 σ q282 hq282) ?_
                                                                refine J_aload_n (i := 2) 2 990 dL_law_989 rfl rfl rfl ?_
                                                                refine J_aload_n (i := 0) 0 991 dL_law_990 rfl rfl rfl ?_
                                                                refine J_iload_n (i := 3) 3 992 dL_law_991 rfl rfl rfl ?_
                                                                refine J_ic 993 dL_law_992 rfl (1 : Int32) kic_1 ?_
                                                                refine J_iadd 994 dL_law_993 rfl ?_
                                                                obtain ⟨v284, hv284, h⟩ := some_of_bind h
                                                                refine J_iald 995 dL_law_994 rfl hv284 ?_
                                                                refine J_aload_n (i := 0) 0 996 dL_law_995 rfl rfl rfl ?_
                                                                refine J_iload_n (i := 3) 3 997 dL_law_996 rfl rfl rfl ?_
                                                                refine J_ic 998 dL_law_997 rfl (2 : Int32) kic_2 ?_
                                                                refine J_iadd 999 dL_law_998 rfl ?_
                                                                obtain ⟨v285, hv285, h⟩ := some_of_bind h
                                                                refine J_iald 1000 dL_law_999 rfl hv285 ?_
                                                                obtain ⟨b287, hb287, h⟩ := some_of_bind h
                                                                obtain ⟨q286, hq286, h⟩ := some_of_bind h
                                                                refine J_cVi 1003 dL_law_1000 rfl ykX7_replay (Or.inl q2828) q2829 q2830 (Nat.le_of_ble_eq_true rfl) (cs_int cs_nil) (by decide) [.int v284, .int v285] hb287 (by decide) rfl rfl rfl (sX7_replay hγ l2 v284 v285 q282.2 q286 hq286) ?_
                                                                refine J_icmp_eq 1361 1006 dL_law_1003 (by decide) rfl (fun c288 => ?_) (fun c288 => ?_)
                                                                · rw [if_pos c288] at h
                                                                  refine J_iinc (i := 3) (v := l3 + (6 : Int32)) 3 1364 [(3, 1, .int (l3 + (6 : Int32))), (0, 1, va_rf l0), (1, 1, va_rf l1), (2, 1, va_rf l2)] dL_law_1361 rfl rfl (Nat.le_of_ble_eq_true rfl) (by rw [kic_6]) rfl ?_
                                                                  refine J_goto 18 dL_law_1364 (by decide) ?_
                                                                  refine J.pick [1, 2, 3, 0] rfl ?_
                                                                  exact ih (l3 + (6 : Int32)) q286.2 h
                                                                · rw [if_neg c288] at h
                                                                  refine J_ic 1007 dL_law_1006 rfl (0 : Int32) kic_0 ?_
                                                                  exact J_zret rfl (by decide) dL_law_1007 (retI h)
                                                              · rw [if_neg c279] at h
                                                                rcases Classical.em ((v4 &&& (63 : Int32)) = (29 : Int32)) with c290 | c290
                                                                · rw [if_pos c290] at h
                                                                  refine J_tsC c290 1008 dL_law_33 (by decide) (by decide) rfl (by decide) ?_
                                                                  refine J_aload_n (i := 1) 1 1009 dL_law_1008 rfl rfl rfl ?_
                                                                  refine J_aload_n (i := 0) 0 1010 dL_law_1009 rfl rfl rfl ?_
                                                                  refine J_iload_n (i := 3) 3 1011 dL_law_1010 rfl rfl rfl ?_
                                                                  refine J_ic 1012 dL_law_1011 rfl (1 : Int32) kic_1 ?_
                                                                  refine J_iadd 1013 dL_law_1012 rfl ?_
                                                                  obtain ⟨v291, hv291, h⟩ := some_of_bind h
                                                                  refine J_iald 1014 dL_law_1013 rfl hv291 ?_
                                                                  obtain ⟨b293, hb293, h⟩ := some_of_bind h
                                                                  obtain ⟨q292, hq292, h⟩ := some_of_bind h
                                                                  refine J_cVi 1017 dL_law_1014 rfl ykX0_odd (Or.inl q2005) q2006 q2007 (Nat.le_of_ble_eq_true rfl) cs_nil (by decide) [.int v291] hb293 (by decide) rfl rfl rfl (sX0_odd hγ l1 v291 σ q292 hq292) ?_
                                                                  refine J_aload_n (i := 2) 2 1018 dL_law_1017 rfl rfl rfl ?_
                                                                  refine J_aload_n (i := 0) 0 1019 dL_law_1018 rfl rfl rfl ?_
                                                                  refine J_iload_n (i := 3) 3 1020 dL_law_1019 rfl rfl rfl ?_
                                                                  refine J_ic 1021 dL_law_1020 rfl (1 : Int32) kic_1 ?_
                                                                  refine J_iadd 1022 dL_law_1021 rfl ?_
                                                                  obtain ⟨v294, hv294, h⟩ := some_of_bind h
                                                                  refine J_iald 1023 dL_law_1022 rfl hv294 ?_
                                                                  obtain ⟨b296, hb296, h⟩ := some_of_bind h
                                                                  obtain ⟨q295, hq295, h⟩ := some_of_bind h
                                                                  refine J_cVi 1026 dL_law_1023 rfl ykX7_odd (Or.inl q2871) q2872 q2873 (Nat.le_of_ble_eq_true rfl) (cs_int cs_nil) (by decide) [.int v294] hb296 (by decide) rfl rfl rfl (sX7_odd hγ l2 v294 q292.2 q295 hq295) ?_
                                                                  refine J_icmp_eq 1361 1029 dL_law_1026 (by decide) rfl (fun c297 => ?_) (fun c297 => ?_)
                                                                  · rw [if_pos c297] at h
                                                                    refine J_iinc (i := 3) (v := l3 + (6 : Int32)) 3 1364 [(3, 1, .int (l3 + (6 : Int32))), (0, 1, va_rf l0), (1, 1, va_rf l1), (2, 1, va_rf l2)] dL_law_1361 rfl rfl (Nat.le_of_ble_eq_true rfl) (by rw [kic_6]) rfl ?_
                                                                    refine J_goto 18 dL_law_1364 (by decide) ?_
                                                                    refine J.pick [1, 2, 3, 0] rfl ?_
                                                                    exact ih (l3 + (6 : Int32)) q295.2 h
                                                                  · rw [if_neg c297] at h
                                                                    refine J_ic 1030 dL_law_1029 rfl (0 : Int32) kic_0 ?_
                                                                    exact J_zret rfl (by decide) dL_law_1030 (retI h)
                                                                · rw [if_neg c290] at h
                                                                  rcases Classical.em ((v4 &&& (63 : Int32)) = (30 : Int32)) with c299 | c299
                                                                  · rw [if_pos c299] at h
                                                                    refine J_tsC c299 1031 dL_law_33 (by decide) (by decide) rfl (by decide) ?_
                                                                    refine J_aload_n (i := 1) 1 1032 dL_law_1031 rfl rfl rfl ?_
                                                                    refine J_aload_n (i := 0) 0 1033 dL_law_1032 rfl rfl rfl ?_
                                                                    refine J_iload_n (i := 3) 3 1034 dL_law_1033 rfl rfl rfl ?_
                                                                    refine J_ic 1035 dL_law_1034 rfl (1 : Int32) kic_1 ?_
                                                                    refine J_iadd 1036 dL_law_1035 rfl ?_
                                                                    obtain ⟨v300, hv300, h⟩ := some_of_bind h
                                                                    refine J_iald 1037 dL_law_1036 rfl hv300 ?_
                                                                    obtain ⟨b302, hb302, h⟩ := some_of_bind h
                                                                    obtain ⟨q301, hq301, h⟩ := some_of_bind h
                                                                    refine J_cVi 1040 dL_law_1037 rfl ykX0_spilt (Or.inl q2009) q2010 q2011 (Nat.le_of_ble_eq_true rfl) cs_nil (by decide) [.int v300] hb302 (by decide) rfl rfl rfl (sX0_spilt hγ l1 v300 σ q301 hq301) ?_
                                                                    refine J_aload_n (i := 2) 2 1041 dL_law_1040 rfl rfl rfl ?_
                                                                    refine J_aload_n (i := 0) 0 1042 dL_law_1041 rfl rfl rfl ?_
                                                                    refine J_iload_n (i := 3) 3 1043 dL_law_1042 rfl rfl rfl ?_
                                                                    refine J_ic 1044 dL_law_1043 rfl (1 : Int32) kic_1 ?_
                                                                    refine J_iadd 1045 dL_law_1044 rfl ?_
                                                                    obtain ⟨v303, hv303, h⟩ := some_of_bind h
                                                                    refine J_iald 1046 dL_law_1045 rfl hv303 ?_
                                                                    obtain ⟨b305, hb305, h⟩ := some_of_bind h
                                                                    obtain ⟨q304, hq304, h⟩ := some_of_bind h
                                                                    refine J_cVi 1049 dL_law_1046 rfl ykX7_spilt (Or.inl q2875) q2876 q2877 (Nat.le_of_ble_eq_true rfl) (cs_int cs_nil) (by decide) [.int v303] hb305 (by decide) rfl rfl rfl (sX7_spilt hγ l2 v303 q301.2 q304 hq304) ?_
                                                                    refine J_icmp_eq 1361 1052 dL_law_1049 (by decide) rfl (fun c306 => ?_) (fun c306 => ?_)
                                                                    · rw [if_pos c306] at h
                                                                      refine J_iinc (i := 3) (v := l3 + (6 : Int32)) 3 1364 [(3, 1, .int (l3 + (6 : Int32))), (0, 1, va_rf l0), (1, 1, va_rf l1), (2, 1, va_rf l2)] dL_law_1361 rfl rfl (Nat.le_of_ble_eq_true rfl) (by rw [kic_6]) rfl ?_
                                                                      refine J_goto 18 dL_law_1364 (by decide) ?_
                                                                      refine J.pick [1, 2, 3, 0] rfl ?_
                                                                      exact ih (l3 + (6 : Int32)) q304.2 h
                                                                    · rw [if_neg c306] at h
                                                                      refine J_ic 1053 dL_law_1052 rfl (0 : Int32) kic_0 ?_
                                                                      exact J_zret rfl (by decide) dL_law_1053 (retI h)
                                                                  · rw [if_neg c299] at h
                                                                    rcases Classical.em ((v4 &&& (63 : Int32)) = (31 : Int32)) with c308 | c308
                                                                    · rw [if_pos c308] at h
                                                                      refine J_tsC c308 1054 dL_law_33 (by decide) (by decide) rfl (by decide) ?_
                                                                      refine J_aload_n (i := 1) 1 1055 dL_law_1054 rfl rfl rfl ?_
                                                                      refine J_aload_n (i := 0) 0 1056 dL_law_1055 rfl rfl rfl ?_
                                                                      refine J_iload_n (i := 3) 3 1057 dL_law_1056 rfl rfl rfl ?_
                                                                      refine J_ic 1058 dL_law_1057 rfl (1 : Int32) kic_1 ?_
                                                                      refine J_iadd 1059 dL_law_1058 rfl ?_
                                                                      obtain ⟨v309, hv309, h⟩ := some_of_bind h
                                                                      refine J_iald 1060 dL_law_1059 rfl hv309 ?_
                                                                      refine J_aload_n (i := 0) 0 1061 dL_law_1060 rfl rfl rfl ?_
                                                                      refine J_iload_n (i := 3) 3 1062 dL_law_1061 rfl rfl rfl ?_
                                                                      refine J_ic 1063 dL_law_1062 rfl (2 : Int32) kic_2 ?_
                                                                      refine J_iadd 1064 dL_law_1063 rfl ?_
                                                                      obtain ⟨v310, hv310, h⟩ := some_of_bind h
                                                                      refine J_iald 1065 dL_law_1064 rfl hv310 ?_
                                                                      obtain ⟨b312, hb312, h⟩ := some_of_bind h
                                                                      obtain ⟨q311, hq311, h⟩ := some_of_bind h
                                                                      refine J_cVi 1068 dL_law_1065 rfl ykX0_seen (Or.inl q2018) q2019 q2020 (Nat.le_of_ble_eq_true rfl) cs_nil (by decide) [.int v309, .int v310] hb312 (by decide) rfl rfl rfl (sX0_seen hγ l1 v309 v310 σ q311 hq311) ?_
                                                                      refine J_aload_n (i := 2) 2 1069 dL_law_1068 rfl rfl rfl ?_
                                                                      refine J_aload_n (i := 0) 0 1070 dL_law_1069 rfl rfl rfl ?_
                                                                      refine J_iload_n (i := 3) 3 1071 dL_law_1070 rfl rfl rfl ?_
                                                                      refine J_ic 1072 dL_law_1071 rfl (1 : Int32) kic_1 ?_
                                                                      refine J_iadd 1073 dL_law_1072 rfl ?_
                                                                      obtain ⟨v313, hv313, h⟩ := some_of_bind h
                                                                      refine J_iald 1074 dL_law_1073 rfl hv313 ?_
                                                                      refine J_aload_n (i := 0) 0 1075 dL_law_1074 rfl rfl rfl ?_
                                                                      refine J_iload_n (i := 3) 3 1076 dL_law_1075 rfl rfl rfl ?_
                                                                      refine J_ic 1077 dL_law_1076 rfl (2 : Int32) kic_2 ?_
                                                                      refine J_iadd 1078 dL_law_1077 rfl ?_
                                                                      obtain ⟨v314, hv314, h⟩ := some_of_bind h
                                                                      refine J_iald 1079 dL_law_1078 rfl hv314 ?_
                                                                      obtain ⟨b316, hb316, h⟩ := some_of_bind h
                                                                      obtain ⟨q315, hq315, h⟩ := some_of_bind h
                                                                      refine J_cVi 1082 dL_law_1079 rfl ykX7_seen (Or.inl q2879) q2880 q2881 (Nat.le_of_ble_eq_true rfl) (cs_int cs_nil) (by decide) [.int v313, .int v314] hb316 (by decide) rfl rfl rfl (sX7_seen hγ l2 v313 v314 q311.2 q315 hq315) ?_
                                                                      refine J_icmp_eq 1361 1085 dL_law_1082 (by decide) rfl (fun c317 => ?_) (fun c317 => ?_)
                                                                      · rw [if_pos c317] at h
                                                                        refine J_iinc (i := 3) (v := l3 + (6 : Int32)) 3 1364 [(3, 1, .int (l3 + (6 : Int32))), (0, 1, va_rf l0), (1, 1, va_rf l1), (2, 1, va_rf l2)] dL_law_1361 rfl rfl (Nat.le_of_ble_eq_true rfl) (by rw [kic_6]) rfl ?_
                                                                        refine J_goto 18 dL_law_1364 (by decide) ?_
                                                                        refine J.pick [1, 2, 3, 0] rfl ?_
                                                                        exact ih (l3 + (6 : Int32)) q315.2 h
                                                                      · rw [if_neg c317] at h
                                                                        refine J_ic 1086 dL_law_1085 rfl (0 : Int32) kic_0 ?_
                                                                        exact J_zret rfl (by decide) dL_law_1086 (retI h)
                                                                    · rw [if_neg c308] at h
                                                                      rcases Classical.em ((v4 &&& (63 : Int32)) = (32 : Int32)) with c319 | c319
                                                                      · rw [if_pos c319] at h
                                                                        refine J_tsC c319 1087 dL_law_33 (by decide) (by decide) rfl (by decide) ?_
                                                                        refine J_aload_n (i := 1) 1 1088 dL_law_1087 rfl rfl rfl ?_
                                                                        obtain ⟨b321, hb321, h⟩ := some_of_bind h
                                                                        obtain ⟨q320, hq320, h⟩ := some_of_bind h
                                                                        refine J_cVi 1091 dL_law_1088 rfl ykX0_forget (Or.inl q2023) q2024 q2025 (Nat.le_of_ble_eq_true rfl) cs_nil (by decide) [] hb321 (by decide) rfl rfl rfl (sX0_forget hγ l1  σ q320 hq320) ?_
                                                                        refine J_aload_n (i := 2) 2 1092 dL_law_1091 rfl rfl rfl ?_
                                                                        obtain ⟨b323, hb323, h⟩ := some_of_bind h
                                                                        obtain ⟨q322, hq322, h⟩ := some_of_bind h
                                                                        refine J_cVi 1095 dL_law_1092 rfl ykX7_forget (Or.inl q2884) q2885 q2886 (Nat.le_of_ble_eq_true rfl) (cs_int cs_nil) (by decide) [] hb323 (by decide) rfl rfl rfl (sX7_forget hγ l2  q320.2 q322 hq322) ?_
                                                                        refine J_icmp_eq 1361 1098 dL_law_1095 (by decide) rfl (fun c324 => ?_) (fun c324 => ?_)
                                                                        · rw [if_pos c324] at h
                                                                          refine J_iinc (i := 3) (v := l3 + (6 : Int32)) 3 1364 [(3, 1, .int (l3 + (6 : Int32))), (0, 1, va_rf l0), (1, 1, va_rf l1), (2, 1, va_rf l2)] dL_law_1361 rfl rfl (Nat.le_of_ble_eq_true rfl) (by rw [kic_6]) rfl ?_
                                                                          refine J_goto 18 dL_law_1364 (by decide) ?_
                                                                          refine J.pick [1, 2, 3, 0] rfl ?_
                                                                          exact ih (l3 + (6 : Int32)) q322.2 h
                                                                        · rw [if_neg c324] at h
                                                                          refine J_ic 1099 dL_law_1098 rfl (0 : Int32) kic_0 ?_
                                                                          exact J_zret rfl (by decide) dL_law_1099 (retI h)
                                                                      · rw [if_neg c319] at h
                                                                        rcases Classical.em ((v4 &&& (63 : Int32)) = (33 : Int32)) with c326 | c326
                                                                        · rw [if_pos c326] at h
                                                                          refine J_tsC c326 1100 dL_law_33 (by decide) (by decide) rfl (by decide) ?_
                                                                          refine J_aload_n (i := 1) 1 1101 dL_law_1100 rfl rfl rfl ?_
                                                                          obtain ⟨b328, hb328, h⟩ := some_of_bind h
                                                                          obtain ⟨q327, hq327, h⟩ := some_of_bind h
                                                                          refine J_cVi 1104 dL_law_1101 rfl ykX0_canBe (Or.inl q2027) q2028 q2029 (Nat.le_of_ble_eq_true rfl) cs_nil (by decide) [] hb328 (by decide) rfl rfl rfl (sX0_canBe hγ l1  σ q327 hq327) ?_
                                                                          refine J_aload_n (i := 2) 2 1105 dL_law_1104 rfl rfl rfl ?_
                                                                          obtain ⟨b330, hb330, h⟩ := some_of_bind h
                                                                          obtain ⟨q329, hq329, h⟩ := some_of_bind h
                                                                          refine J_cVi 1108 dL_law_1105 rfl ykX7_canBe (Or.inl q2888) q2889 q2890 (Nat.le_of_ble_eq_true rfl) (cs_int cs_nil) (by decide) [] hb330 (by decide) rfl rfl rfl (sX7_canBe hγ l2  q327.2 q329 hq329) ?_
                                                                          refine J_icmp_eq 1361 1111 dL_law_1108 (by decide) rfl (fun c331 => ?_) (fun c331 => ?_)
                                                                          · rw [if_pos c331] at h
                                                                            refine J_iinc (i := 3) (v := l3 + (6 : Int32)) 3 1364 [(3, 1, .int (l3 + (6 : Int32))), (0, 1, va_rf l0), (1, 1, va_rf l1), (2, 1, va_rf l2)] dL_law_1361 rfl rfl (Nat.le_of_ble_eq_true rfl) (by rw [kic_6]) rfl ?_
                                                                            refine J_goto 18 dL_law_1364 (by decide) ?_
                                                                            refine J.pick [1, 2, 3, 0] rfl ?_
                                                                            exact ih (l3 + (6 : Int32)) q329.2 h
                                                                          · rw [if_neg c331] at h
                                                                            refine J_ic 1112 dL_law_1111 rfl (0 : Int32) kic_0 ?_
                                                                            exact J_zret rfl (by decide) dL_law_1112 (retI h)
                                                                        · rw [if_neg c326] at h
                                                                          rcases Classical.em ((v4 &&& (63 : Int32)) = (34 : Int32)) with c333 | c333
                                                                          · rw [if_pos c333] at h
                                                                            refine J_tsC c333 1113 dL_law_33 (by decide) (by decide) rfl (by decide) ?_
                                                                            refine J_aload_n (i := 1) 1 1114 dL_law_1113 rfl rfl rfl ?_
                                                                            refine J_aload_n (i := 0) 0 1115 dL_law_1114 rfl rfl rfl ?_
                                                                            refine J_iload_n (i := 3) 3 1116 dL_law_1115 rfl rfl rfl ?_
                                                                            refine J_ic 1117 dL_law_1116 rfl (1 : Int32) kic_1 ?_
                                                                            refine J_iadd 1118 dL_law_1117 rfl ?_
                                                                            obtain ⟨v334, hv334, h⟩ := some_of_bind h
                                                                            refine J_iald 1119 dL_law_1118 rfl hv334 ?_
                                                                            obtain ⟨b336, hb336, h⟩ := some_of_bind h
                                                                            obtain ⟨q335, hq335, h⟩ := some_of_bind h
                                                                            refine J_cVi 1122 dL_law_1119 rfl ykX0_ask (Or.inl q2031) q2032 q2033 (Nat.le_of_ble_eq_true rfl) cs_nil (by decide) [.int v334] hb336 (by decide) rfl rfl rfl (sX0_ask hγ l1 v334 σ q335 hq335) ?_
                                                                            refine J_aload_n (i := 2) 2 1123 dL_law_1122 rfl rfl rfl ?_
                                                                            refine J_aload_n (i := 0) 0 1124 dL_law_1123 rfl rfl rfl ?_
                                                                            refine J_iload_n (i := 3) 3 1125 dL_law_1124 rfl rfl rfl ?_
                                                                            refine J_ic 1126 dL_law_1125 rfl (1 : Int32) kic_1 ?_
                                                                            refine J_iadd 1127 dL_law_1126 rfl ?_
                                                                            obtain ⟨v337, hv337, h⟩ := some_of_bind h
                                                                            refine J_iald 1128 dL_law_1127 rfl hv337 ?_
                                                                            obtain ⟨b339, hb339, h⟩ := some_of_bind h
                                                                            obtain ⟨q338, hq338, h⟩ := some_of_bind h
                                                                            refine J_cVi 1131 dL_law_1128 rfl ykX7_ask (Or.inl q2896) q2897 q2898 (Nat.le_of_ble_eq_true rfl) (cs_int cs_nil) (by decide) [.int v337] hb339 (by decide) rfl rfl rfl (sX7_ask hγ l2 v337 q335.2 q338 hq338) ?_
                                                                            refine J_icmp_eq 1361 1134 dL_law_1131 (by decide) rfl (fun c340 => ?_) (fun c340 => ?_)
                                                                            · rw [if_pos c340] at h
                                                                              refine J_iinc (i := 3) (v := l3 + (6 : Int32)) 3 1364 [(3, 1, .int (l3 + (6 : Int32))), (0, 1, va_rf l0), (1, 1, va_rf l1), (2, 1, va_rf l2)] dL_law_1361 rfl rfl (Nat.le_of_ble_eq_true rfl) (by rw [kic_6]) rfl ?_
                                                                              refine J_goto 18 dL_law_1364 (by decide) ?_
                                                                              refine J.pick [1, 2, 3, 0] rfl ?_
                                                                              exact ih (l3 + (6 : Int32)) q338.2 h
                                                                            · rw [if_neg c340] at h
                                                                              refine J_ic 1135 dL_law_1134 rfl (0 : Int32) kic_0 ?_
                                                                              exact J_zret rfl (by decide) dL_law_1135 (retI h)
                                                                          · rw [if_neg c333] at h
                                                                            rcases Classical.em ((v4 &&& (63 : Int32)) = (35 : Int32)) with c342 | c342
                                                                            · rw [if_pos c342] at h
                                                                              refine J_tsC c342 1136 dL_law_33 (by decide) (by decide) rfl (by decide) ?_
                                                                              refine J_aload_n (i := 1) 1 1137 dL_law_1136 rfl rfl rfl ?_
                                                                              refine J_aload_n (i := 0) 0 1138 dL_law_1137 rfl rfl rfl ?_
                                                                              refine J_iload_n (i := 3) 3 1139 dL_law_1138 rfl rfl rfl ?_
                                                                              refine J_ic 1140 dL_law_1139 rfl (1 : Int32) kic_1 ?_
                                                                              refine J_iadd 1141 dL_law_1140 rfl ?_
                                                                              obtain ⟨v343, hv343, h⟩ := some_of_bind h
                                                                              refine J_iald 1142 dL_law_1141 rfl hv343 ?_
                                                                              refine J_aload_n (i := 0) 0 1143 dL_law_1142 rfl rfl rfl ?_
                                                                              refine J_iload_n (i := 3) 3 1144 dL_law_1143 rfl rfl rfl ?_
                                                                              refine J_ic 1145 dL_law_1144 rfl (2 : Int32) kic_2 ?_
                                                                              refine J_iadd 1146 dL_law_1145 rfl ?_
                                                                              obtain ⟨v344, hv344, h⟩ := some_of_bind h
                                                                              refine J_iald 1147 dL_law_1146 rfl hv344 ?_
                                                                              obtain ⟨b346, hb346, h⟩ := some_of_bind h
                                                                              obtain ⟨q345, hq345, h⟩ := some_of_bind h
                                                                              refine J_cVl 1150 dL_law_1147 rfl ykX0_few (Or.inl q2043) q2044 q2045 (Nat.le_of_ble_eq_true rfl) cs_nil (by decide) [.int v343, .int v344] hb346 (by decide) rfl rfl rfl (sX0_few hγ l1 v343 v344 σ q345 hq345) ?_
                                                                              refine J_aload_n (i := 2) 2 1151 dL_law_1150 rfl rfl rfl ?_
                                                                              refine J_aload_n (i := 0) 0 1152 dL_law_1151 rfl rfl rfl ?_
                                                                              refine J_iload_n (i := 3) 3 1153 dL_law_1152 rfl rfl rfl ?_
                                                                              refine J_ic 1154 dL_law_1153 rfl (1 : Int32) kic_1 ?_
                                                                              refine J_iadd 1155 dL_law_1154 rfl ?_
                                                                              obtain ⟨v347, hv347, h⟩ := some_of_bind h
                                                                              refine J_iald 1156 dL_law_1155 rfl hv347 ?_
                                                                              refine J_aload_n (i := 0) 0 1157 dL_law_1156 rfl rfl rfl ?_
                                                                              refine J_iload_n (i := 3) 3 1158 dL_law_1157 rfl rfl rfl ?_
                                                                              refine J_ic 1159 dL_law_1158 rfl (2 : Int32) kic_2 ?_
                                                                              refine J_iadd 1160 dL_law_1159 rfl ?_
                                                                              obtain ⟨v348, hv348, h⟩ := some_of_bind h
                                                                              refine J_iald 1161 dL_law_1160 rfl hv348 ?_
                                                                              obtain ⟨b350, hb350, h⟩ := some_of_bind h
                                                                              obtain ⟨q349, hq349, h⟩ := some_of_bind h
                                                                              refine J_cVl 1164 dL_law_1161 rfl ykX7_few (Or.inl q2905) q2906 q2907 (Nat.le_of_ble_eq_true rfl) (cs_long cs_nil) (by decide) [.int v347, .int v348] hb350 (by decide) rfl rfl rfl (sX7_few hγ l2 v347 v348 q345.2 q349 hq349) ?_
                                                                              refine J_lcmp 1165 dL_law_1164 rfl ?_
                                                                              refine J_if_eq 1361 1168 dL_law_1165 (by decide) rfl (fun c351 => ?_) (fun c351 => ?_)
                                                                              · rw [if_pos c351] at h
                                                                                refine J_iinc (i := 3) (v := l3 + (6 : Int32)) 3 1364 [(3, 1, .int (l3 + (6 : Int32))), (0, 1, va_rf l0), (1, 1, va_rf l1), (2, 1, va_rf l2)] dL_law_1361 rfl rfl (Nat.le_of_ble_eq_true rfl) (by rw [kic_6]) rfl ?_
                                                                                refine J_goto 18 dL_law_1364 (by decide) ?_
                                                                                refine J.pick [1, 2, 3, 0] rfl ?_
                                                                                exact ih (l3 + (6 : Int32)) q349.2 h
                                                                              · rw [if_neg c351] at h
                                                                                refine J_ic 1169 dL_law_1168 rfl (0 : Int32) kic_0 ?_
                                                                                exact J_zret rfl (by decide) dL_law_1169 (retI h)
                                                                            · rw [if_neg c342] at h
                                                                              rcases Classical.em ((v4 &&& (63 : Int32)) = (36 : Int32)) with c353 | c353
                                                                              · rw [if_pos c353] at h
                                                                                refine J_tsC c353 1170 dL_law_33 (by decide) (by decide) rfl (by decide) ?_
                                                                                refine J_aload_n (i := 1) 1 1171 dL_law_1170 rfl rfl rfl ?_
                                                                                refine J_aload_n (i := 0) 0 1172 dL_law_1171 rfl rfl rfl ?_
                                                                                refine J_iload_n (i := 3) 3 1173 dL_law_1172 rfl rfl rfl ?_
                                                                                refine J_ic 1174 dL_law_1173 rfl (1 : Int32) kic_1 ?_
                                                                                refine J_iadd 1175 dL_law_1174 rfl ?_
                                                                                obtain ⟨v354, hv354, h⟩ := some_of_bind h
                                                                                refine J_iald 1176 dL_law_1175 rfl hv354 ?_
                                                                                refine J_aload_n (i := 0) 0 1177 dL_law_1176 rfl rfl rfl ?_
                                                                                refine J_iload_n (i := 3) 3 1178 dL_law_1177 rfl rfl rfl ?_
                                                                                refine J_ic 1179 dL_law_1178 rfl (2 : Int32) kic_2 ?_
                                                                                refine J_iadd 1180 dL_law_1179 rfl ?_
                                                                                obtain ⟨v355, hv355, h⟩ := some_of_bind h
                                                                                refine J_iald 1181 dL_law_1180 rfl hv355 ?_
                                                                                refine J_aload_n (i := 0) 0 1182 dL_law_1181 rfl rfl rfl ?_
                                                                                refine J_iload_n (i := 3) 3 1183 dL_law_1182 rfl rfl rfl ?_
                                                                                refine J_ic 1184 dL_law_1183 rfl (3 : Int32) kic_3 ?_
                                                                                refine J_iadd 1185 dL_law_1184 rfl ?_
                                                                                obtain ⟨v356, hv356, h⟩ := some_of_bind h
                                                                                refine J_iald 1186 dL_law_1185 rfl hv356 ?_
                                                                                obtain ⟨b358, hb358, h⟩ := some_of_bind h
                                                                                obtain ⟨q357, hq357, h⟩ := some_of_bind h
                                                                                refine J_cVi 1189 dL_law_1186 rfl ykX0_compare (Or.inl q2050) q2051 q2052 (Nat.le_of_ble_eq_true rfl) cs_nil (by decide) [.int v354, .int v355, .int v356] hb358 (by decide) rfl rfl rfl (sX0_compare hγ l1 v354 v355 v356 σ q357 hq357) ?_
                                                                                refine J_aload_n (i := 2) 2 1190 dL_law_1189 rfl rfl rfl ?_
                                                                                refine J_aload_n (i := 0) 0 1191 dL_law_1190 rfl rfl rfl ?_
                                                                                refine J_iload_n (i := 3) 3 1192 dL_law_1191 rfl rfl rfl ?_
                                                                                refine J_ic 1193 dL_law_1192 rfl (1 : Int32) kic_1 ?_
                                                                                refine J_iadd 1194 dL_law_1193 rfl ?_
                                                                                obtain ⟨v359, hv359, h⟩ := some_of_bind h
                                                                                refine J_iald 1195 dL_law_1194 rfl hv359 ?_
                                                                                refine J_aload_n (i := 0) 0 1196 dL_law_1195 rfl rfl rfl ?_
                                                                                refine J_iload_n (i := 3) 3 1197 dL_law_1196 rfl rfl rfl ?_
                                                                                refine J_ic 1198 dL_law_1197 rfl (2 : Int32) kic_2 ?_
                                                                                refine J_iadd 1199 dL_law_1198 rfl ?_
                                                                                obtain ⟨v360, hv360, h⟩ := some_of_bind h
                                                                                refine J_iald 1200 dL_law_1199 rfl hv360 ?_
                                                                                refine J_aload_n (i := 0) 0 1201 dL_law_1200 rfl rfl rfl ?_
                                                                                refine J_iload_n (i := 3) 3 1202 dL_law_1201 rfl rfl rfl ?_
                                                                                refine J_ic 1203 dL_law_1202 rfl (3 : Int32) kic_3 ?_
                                                                                refine J_iadd 1204 dL_law_1203 rfl ?_
                                                                                obtain ⟨v361, hv361, h⟩ := some_of_bind h
                                                                                refine J_iald 1205 dL_law_1204 rfl hv361 ?_
                                                                                obtain ⟨b363, hb363, h⟩ := some_of_bind h
                                                                                obtain ⟨q362, hq362, h⟩ := some_of_bind h
                                                                                refine J_cVi 1208 dL_law_1205 rfl ykX7_compare (Or.inl q2911) q2912 q2913 (Nat.le_of_ble_eq_true rfl) (cs_int cs_nil) (by decide) [.int v359, .int v360, .int v361] hb363 (by decide) rfl rfl rfl (sX7_compare hγ l2 v359 v360 v361 q357.2 q362 hq362) ?_
                                                                                refine J_icmp_eq 1361 1211 dL_law_1208 (by decide) rfl (fun c364 => ?_) (fun c364 => ?_)
                                                                                · rw [if_pos c364] at h
                                                                                  refine J_iinc (i := 3) (v := l3 + (6 : Int32)) 3 1364 [(3, 1, .int (l3 + (6 : Int32))), (0, 1, va_rf l0), (1, 1, va_rf l1), (2, 1, va_rf l2)] dL_law_1361 rfl rfl (Nat.le_of_ble_eq_true rfl) (by rw [kic_6]) rfl ?_
                                                                                  refine J_goto 18 dL_law_1364 (by decide) ?_
                                                                                  refine J.pick [1, 2, 3, 0] rfl ?_
                                                                                  exact ih (l3 + (6 : Int32)) q362.2 h
                                                                                · rw [if_neg c364] at h
                                                                                  refine J_ic 1212 dL_law_1211 rfl (0 : Int32) kic_0 ?_
                                                                                  exact J_zret rfl (by decide) dL_law_1212 (retI h)
                                                                              · rw [if_neg c353] at h
                                                                                rcases Classical.em ((v4 &&& (63 : Int32)) = (37 : Int32)) with c366 | c366
                                                                                · rw [if_pos c366] at h
                                                                                  refine J_tsC c366 1213 dL_law_33 (by decide) (by decide) rfl (by decide) ?_
                                                                                  refine J_aload_n (i := 1) 1 1214 dL_law_1213 rfl rfl rfl ?_
                                                                                  refine J_aload_n (i := 0) 0 1215 dL_law_1214 rfl rfl rfl ?_
                                                                                  refine J_iload_n (i := 3) 3 1216 dL_law_1215 rfl rfl rfl ?_
                                                                                  refine J_ic 1217 dL_law_1216 rfl (1 : Int32) kic_1 ?_
                                                                                  refine J_iadd 1218 dL_law_1217 rfl ?_
                                                                                  obtain ⟨v367, hv367, h⟩ := some_of_bind h
                                                                                  refine J_iald 1219 dL_law_1218 rfl hv367 ?_
                                                                                  refine J_aload_n (i := 0) 0 1220 dL_law_1219 rfl rfl rfl ?_
                                                                                  refine J_iload_n (i := 3) 3 1221 dL_law_1220 rfl rfl rfl ?_
                                                                                  refine J_ic 1222 dL_law_1221 rfl (2 : Int32) kic_2 ?_
                                                                                  refine J_iadd 1223 dL_law_1222 rfl ?_
                                                                                  obtain ⟨v368, hv368, h⟩ := some_of_bind h
                                                                                  refine J_iald 1224 dL_law_1223 rfl hv368 ?_
                                                                                  obtain ⟨b370, hb370, h⟩ := some_of_bind h
                                                                                  obtain ⟨q369, hq369, h⟩ := some_of_bind h
                                                                                  refine J_cVi 1227 dL_law_1224 rfl ykX0_months (Or.inl q2128) q2129 q2130 (Nat.le_of_ble_eq_true rfl) cs_nil (by decide) [.int v367, .int v368] hb370 (by decide) rfl rfl rfl (sX0_months hγ l1 v367 v368 σ q369 hq369) ?_
                                                                                  refine J_aload_n (i := 2) 2 1228 dL_law_1227 rfl rfl rfl ?_
                                                                                  refine J_aload_n (i := 0) 0 1229 dL_law_1228 rfl rfl rfl ?_
                                                                                  refine J_iload_n (i := 3) 3 1230 dL_law_1229 rfl rfl rfl ?_
                                                                                  refine J_ic 1231 dL_law_1230 rfl (1 : Int32) kic_1 ?_
                                                                                  refine J_iadd 1232 dL_law_1231 rfl ?_
                                                                                  obtain ⟨v371, hv371, h⟩ := some_of_bind h
                                                                                  refine J_iald 1233 dL_law_1232 rfl hv371 ?_
                                                                                  refine J_aload_n (i := 0) 0 1234 dL_law_1233 rfl rfl rfl ?_
                                                                                  refine J_iload_n (i := 3) 3 1235 dL_law_1234 rfl rfl rfl ?_
                                                                                  refine J_ic 1236 dL_law_1235 rfl (2 : Int32) kic_2 ?_
                                                                                  refine J_iadd 1237 dL_law_1236 rfl ?_
                                                                                  obtain ⟨v372, hv372, h⟩ := some_of_bind h
                                                                                  refine J_iald 1238 dL_law_1237 rfl hv372 ?_
                                                                                  obtain ⟨b374, hb374, h⟩ := some_of_bind h
                                                                                  obtain ⟨q373, hq373, h⟩ := some_of_bind h
                                                                                  refine J_cVi 1241 dL_law_1238 rfl ykX7_months (Or.inl q2950) q2951 q2952 (Nat.le_of_ble_eq_true rfl) (cs_int cs_nil) (by decide) [.int v371, .int v372] hb374 (by decide) rfl rfl rfl (sX7_months hγ l2 v371 v372 q369.2 q373 hq373) ?_
                                                                                  refine J_icmp_eq 1361 1244 dL_law_1241 (by decide) rfl (fun c375 => ?_) (fun c375 => ?_)
                                                                                  · rw [if_pos c375] at h
                                                                                    refine J_iinc (i := 3) (v := l3 + (6 : Int32)) 3 1364 [(3, 1, .int (l3 + (6 : Int32))), (0, 1, va_rf l0), (1, 1, va_rf l1), (2, 1, va_rf l2)] dL_law_1361 rfl rfl (Nat.le_of_ble_eq_true rfl) (by rw [kic_6]) rfl ?_
                                                                                    refine J_goto 18 dL_law_1364 (by decide) ?_
                                                                                    refine J.pick [1, 2, 3, 0] rfl ?_
                                                                                    exact ih (l3 + (6 : Int32)) q373.2 h
                                                                                  · rw [if_neg c375] at h
                                                                                    refine J_ic 1245 dL_law_1244 rfl (0 : Int32) kic_0 ?_
                                                                                    exact J_zret rfl (by decide) dL_law_1245 (retI h)
                                                                                · rw [if_neg c366] at h
                                                                                  rcases Classical.em ((v4 &&& (63 : Int32)) = (38 : Int32)) with c377 | c377
                                                                                  · rw [if_pos c377] at h
                                                                                    refine J_tsC c377 1246 dL_law_33 (by decide) (by decide) rfl (by decide) ?_
                                                                                    refine J_aload_n (i := 1) 1 1247 dL_law_1246 rfl rfl rfl ?_
                                                                                    refine J_aload_n (i := 0) 0 1248 dL_law_1247 rfl rfl rfl ?_
                                                                                    refine J_iload_n (i := 3) 3 1249 dL_law_1248 rfl rfl rfl ?_
                                                                                    refine J_ic 1250 dL_law_1249 rfl (1 : Int32) kic_1 ?_
                                                                                    refine J_iadd 1251 dL_law_1250 rfl ?_
                                                                                    obtain ⟨v378, hv378, h⟩ := some_of_bind h
                                                                                    refine J_iald 1252 dL_law_1251 rfl hv378 ?_
                                                                                    refine J_aload_n (i := 0) 0 1253 dL_law_1252 rfl rfl rfl ?_
                                                                                    refine J_iload_n (i := 3) 3 1254 dL_law_1253 rfl rfl rfl ?_
                                                                                    refine J_ic 1255 dL_law_1254 rfl (2 : Int32) kic_2 ?_
                                                                                    refine J_iadd 1256 dL_law_1255 rfl ?_
                                                                                    obtain ⟨v379, hv379, h⟩ := some_of_bind h
                                                                                    refine J_iald 1257 dL_law_1256 rfl hv379 ?_
                                                                                    obtain ⟨b381, hb381, h⟩ := some_of_bind h
                                                                                    obtain ⟨q380, hq380, h⟩ := some_of_bind h
                                                                                    refine J_cVi 1260 dL_law_1257 rfl ykX0_drawn (Or.inl q2151) q2152 q2153 (Nat.le_of_ble_eq_true rfl) cs_nil (by decide) [.int v378, .int v379] hb381 (by decide) rfl rfl rfl (sX0_drawn hγ l1 v378 v379 σ q380 hq380) ?_
                                                                                    refine J_aload_n (i := 2) 2 1261 dL_law_1260 rfl rfl rfl ?_
                                                                                    refine J_aload_n (i := 0) 0 1262 dL_law_1261 rfl rfl rfl ?_
                                                                                    refine J_iload_n (i := 3) 3 1263 dL_law_1262 rfl rfl rfl ?_
                                                                                    refine J_ic 1264 dL_law_1263 rfl (1 : Int32) kic_1 ?_
                                                                                    refine J_iadd 1265 dL_law_1264 rfl ?_
                                                                                    obtain ⟨v382, hv382, h⟩ := some_of_bind h
                                                                                    refine J_iald 1266 dL_law_1265 rfl hv382 ?_
                                                                                    refine J_aload_n (i := 0) 0 1267 dL_law_1266 rfl rfl rfl ?_
                                                                                    refine J_iload_n (i := 3) 3 1268 dL_law_1267 rfl rfl rfl ?_
                                                                                    refine J_ic 1269 dL_law_1268 rfl (2 : Int32) kic_2 ?_
                                                                                    refine J_iadd 1270 dL_law_1269 rfl ?_
                                                                                    obtain ⟨v383, hv383, h⟩ := some_of_bind h
                                                                                    refine J_iald 1271 dL_law_1270 rfl hv383 ?_
                                                                                    obtain ⟨b385, hb385, h⟩ := some_of_bind h
                                                                                    obtain ⟨q384, hq384, h⟩ := some_of_bind h
                                                                                    refine J_cVi 1274 dL_law_1271 rfl ykX7_drawn (Or.inl q2965) q2966 q2967 (Nat.le_of_ble_eq_true rfl) (cs_int cs_nil) (by decide) [.int v382, .int v383] hb385 (by decide) rfl rfl rfl (sX7_drawn hγ l2 v382 v383 q380.2 q384 hq384) ?_
                                                                                    refine J_icmp_eq 1361 1277 dL_law_1274 (by decide) rfl (fun c386 => ?_) (fun c386 => ?_)
                                                                                    · rw [if_pos c386] at h
                                                                                      refine J_iinc (i := 3) (v := l3 + (6 : Int32)) 3 1364 [(3, 1, .int (l3 + (6 : Int32))), (0, 1, va_rf l0), (1, 1, va_rf l1), (2, 1, va_rf l2)] dL_law_1361 rfl rfl (Nat.le_of_ble_eq_true rfl) (by rw [kic_6]) rfl ?_
                                                                                      refine J_goto 18 dL_law_1364 (by decide) ?_
                                                                                      refine J.pick [1, 2, 3, 0] rfl ?_
                                                                                      exact ih (l3 + (6 : Int32)) q384.2 h
                                                                                    · rw [if_neg c386] at h
                                                                                      refine J_ic 1278 dL_law_1277 rfl (0 : Int32) kic_0 ?_
                                                                                      exact J_zret rfl (by decide) dL_law_1278 (retI h)
                                                                                  · rw [if_neg c377] at h
                                                                                    rcases Classical.em ((v4 &&& (63 : Int32)) = (39 : Int32)) with c388 | c388
                                                                                    · rw [if_pos c388] at h
                                                                                      refine J_tsC c388 1279 dL_law_33 (by decide) (by decide) rfl (by decide) ?_
                                                                                      refine J_aload_n (i := 1) 1 1280 dL_law_1279 rfl rfl rfl ?_
                                                                                      refine J_aload_n (i := 0) 0 1281 dL_law_1280 rfl rfl rfl ?_
                                                                                      refine J_iload_n (i := 3) 3 1282 dL_law_1281 rfl rfl rfl ?_
                                                                                      refine J_ic 1283 dL_law_1282 rfl (1 : Int32) kic_1 ?_
                                                                                      refine J_iadd 1284 dL_law_1283 rfl ?_
                                                                                      obtain ⟨v389, hv389, h⟩ := some_of_bind h
                                                                                      refine J_iald 1285 dL_law_1284 rfl hv389 ?_
                                                                                      obtain ⟨b391, hb391, h⟩ := some_of_bind h
                                                                                      obtain ⟨q390, hq390, h⟩ := some_of_bind h
                                                                                      refine J_cVi 1288 dL_law_1285 rfl ykX0_image (Or.inl q2155) q2156 q2157 (Nat.le_of_ble_eq_true rfl) cs_nil (by decide) [.int v389] hb391 (by decide) rfl rfl rfl (sX0_image hγ l1 v389 σ q390 hq390) ?_
                                                                                      refine J_aload_n (i := 2) 2 1289 dL_law_1288 rfl rfl rfl ?_
                                                                                      refine J_aload_n (i := 0) 0 1290 dL_law_1289 rfl rfl rfl ?_
                                                                                      refine J_iload_n (i := 3) 3 1291 dL_law_1290 rfl rfl rfl ?_
                                                                                      refine J_ic 1292 dL_law_1291 rfl (1 : Int32) kic_1 ?_
                                                                                      refine J_iadd 1293 dL_law_1292 rfl ?_
                                                                                      obtain ⟨v392, hv392, h⟩ := some_of_bind h
                                                                                      refine J_iald 1294 dL_law_1293 rfl hv392 ?_
                                                                                      obtain ⟨b394, hb394, h⟩ := some_of_bind h
                                                                                      obtain ⟨q393, hq393, h⟩ := some_of_bind h
                                                                                      refine J_cVi 1297 dL_law_1294 rfl ykX7_image (Or.inl q2403) q2404 q2405 (Nat.le_of_ble_eq_true rfl) (cs_int cs_nil) (by decide) [.int v392] hb394 (by decide) rfl rfl rfl (sX7_image hγ l2 v392 q390.2 q393 hq393) ?_
                                                                                      refine J_icmp_eq 1361 1300 dL_law_1297 (by decide) rfl (fun c395 => ?_) (fun c395 => ?_)
                                                                                      · rw [if_pos c395] at h
                                                                                        refine J_iinc (i := 3) (v := l3 + (6 : Int32)) 3 1364 [(3, 1, .int (l3 + (6 : Int32))), (0, 1, va_rf l0), (1, 1, va_rf l1), (2, 1, va_rf l2)] dL_law_1361 rfl rfl (Nat.le_of_ble_eq_true rfl) (by rw [kic_6]) rfl ?_
                                                                                        refine J_goto 18 dL_law_1364 (by decide) ?_
                                                                                        refine J.pick [1, 2, 3, 0] rfl ?_
                                                                                        exact ih (l3 + (6 : Int32)) q393.2 h
                                                                                      · rw [if_neg c395] at h
                                                                                        refine J_ic 1301 dL_law_1300 rfl (0 : Int32) kic_0 ?_
                                                                                        exact J_zret rfl (by decide) dL_law_1301 (retI h)
                                                                                    · rw [if_neg c388] at h
                                                                                      rcases Classical.em ((v4 &&& (63 : Int32)) = (40 : Int32)) with c397 | c397
                                                                                      · rw [if_pos c397] at h
                                                                                        refine J_tsC c397 1302 dL_law_33 (by decide) (by decide) rfl (by decide) ?_
                                                                                        refine J_aload_n (i := 1) 1 1303 dL_law_1302 rfl rfl rfl ?_
                                                                                        refine J_aload_n (i := 0) 0 1304 dL_law_1303 rfl rfl rfl ?_
                                                                                        refine J_iload_n (i := 3) 3 1305 dL_law_1304 rfl rfl rfl ?_
                                                                                        refine J_ic 1306 dL_law_1305 rfl (1 : Int32) kic_1 ?_
                                                                                        refine J_iadd 1307 dL_law_1306 rfl ?_
                                                                                        obtain ⟨v398, hv398, h⟩ := some_of_bind h
                                                                                        refine J_iald 1308 dL_law_1307 rfl hv398 ?_
                                                                                        obtain ⟨b400, hb400, h⟩ := some_of_bind h
                                                                                        obtain ⟨q399, hq399, h⟩ := some_of_bind h
                                                                                        refine J_cVi 1311 dL_law_1308 rfl ykX0_back (Or.inl q2182) q2183 q2184 (Nat.le_of_ble_eq_true rfl) cs_nil (by decide) [.int v398] hb400 (by decide) rfl rfl rfl (sX0_back hγ l1 v398 σ q399 hq399) ?_
                                                                                        refine J_aload_n (i := 2) 2 1312 dL_law_1311 rfl rfl rfl ?_
                                                                                        refine J_aload_n (i := 0) 0 1313 dL_law_1312 rfl rfl rfl ?_
                                                                                        refine J_iload_n (i := 3) 3 1314 dL_law_1313 rfl rfl rfl ?_
                                                                                        refine J_ic 1315 dL_law_1314 rfl (1 : Int32) kic_1 ?_
                                                                                        refine J_iadd 1316 dL_law_1315 rfl ?_
                                                                                        obtain ⟨v401, hv401, h⟩ := some_of_bind h
                                                                                        refine J_iald 1317 dL_law_1316 rfl hv401 ?_
                                                                                        obtain ⟨b403, hb403, h⟩ := some_of_bind h
                                                                                        obtain ⟨q402, hq402, h⟩ := some_of_bind h
                                                                                        refine J_cVi 1320 dL_law_1317 rfl ykX7_back (Or.inl q2418) q2419 q2420 (Nat.le_of_ble_eq_true rfl) (cs_int cs_nil) (by decide) [.int v401] hb403 (by decide) rfl rfl rfl (sX7_back hγ l2 v401 q399.2 q402 hq402) ?_
                                                                                        refine J_icmp_eq 1361 1323 dL_law_1320 (by decide) rfl (fun c404 => ?_) (fun c404 => ?_)
                                                                                        · rw [if_pos c404] at h
                                                                                          refine J_iinc (i := 3) (v := l3 + (6 : Int32)) 3 1364 [(3, 1, .int (l3 + (6 : Int32))), (0, 1, va_rf l0), (1, 1, va_rf l1), (2, 1, va_rf l2)] dL_law_1361 rfl rfl (Nat.le_of_ble_eq_true rfl) (by rw [kic_6]) rfl ?_
                                                                                          refine J_goto 18 dL_law_1364 (by decide) ?_
                                                                                          refine J.pick [1, 2, 3, 0] rfl ?_
                                                                                          exact ih (l3 + (6 : Int32)) q402.2 h
                                                                                        · rw [if_neg c404] at h
                                                                                          refine J_ic 1324 dL_law_1323 rfl (0 : Int32) kic_0 ?_
                                                                                          exact J_zret rfl (by decide) dL_law_1324 (retI h)
                                                                                      · rw [if_neg c397] at h
                                                                                        rcases Classical.em ((v4 &&& (63 : Int32)) = (41 : Int32)) with c406 | c406
                                                                                        · rw [if_pos c406] at h
                                                                                          refine J_tsC c406 1325 dL_law_33 (by decide) (by decide) rfl (by decide) ?_
                                                                                          refine J_aload_n (i := 1) 1 1326 dL_law_1325 rfl rfl rfl ?_
                                                                                          refine J_aload_n (i := 0) 0 1327 dL_law_1326 rfl rfl rfl ?_
                                                                                          refine J_iload_n (i := 3) 3 1328 dL_law_1327 rfl rfl rfl ?_
                                                                                          refine J_ic 1329 dL_law_1328 rfl (1 : Int32) kic_1 ?_
                                                                                          refine J_iadd 1330 dL_law_1329 rfl ?_
                                                                                          obtain ⟨v407, hv407, h⟩ := some_of_bind h
                                                                                          refine J_iald 1331 dL_law_1330 rfl hv407 ?_
                                                                                          obtain ⟨b409, hb409, h⟩ := some_of_bind h
                                                                                          obtain ⟨q408, hq408, h⟩ := some_of_bind h
                                                                                          refine J_cVi 1334 dL_law_1331 rfl ykX0_count (Or.inl q2186) q2187 q2188 (Nat.le_of_ble_eq_true rfl) cs_nil (by decide) [.int v407] hb409 (by decide) rfl rfl rfl (sX0_count hγ l1 v407 σ q408 hq408) ?_
                                                                                          refine J_aload_n (i := 2) 2 1335 dL_law_1334 rfl rfl rfl ?_
                                                                                          refine J_aload_n (i := 0) 0 1336 dL_law_1335 rfl rfl rfl ?_
                                                                                          refine J_iload_n (i := 3) 3 1337 dL_law_1336 rfl rfl rfl ?_
                                                                                          refine J_ic 1338 dL_law_1337 rfl (1 : Int32) kic_1 ?_
                                                                                          refine J_iadd 1339 dL_law_1338 rfl ?_
                                                                                          obtain ⟨v410, hv410, h⟩ := some_of_bind h
                                                                                          refine J_iald 1340 dL_law_1339 rfl hv410 ?_
                                                                                          obtain ⟨b412, hb412, h⟩ := some_of_bind h
                                                                                          obtain ⟨q411, hq411, h⟩ := some_of_bind h
                                                                                          refine J_cVi 1343 dL_law_1340 rfl ykX7_count (Or.inl q2969) q2970 q2971 (Nat.le_of_ble_eq_true rfl) (cs_int cs_nil) (by decide) [.int v410] hb412 (by decide) rfl rfl rfl (sX7_count hγ l2 v410 q408.2 q411 hq411) ?_
                                                                                          refine J_icmp_eq 1361 1346 dL_law_1343 (by decide) rfl (fun c413 => ?_) (fun c413 => ?_)
                                                                                          · rw [if_pos c413] at h
                                                                                            refine J_iinc (i := 3) (v := l3 + (6 : Int32)) 3 1364 [(3, 1, .int (l3 + (6 : Int32))), (0, 1, va_rf l0), (1, 1, va_rf l1), (2, 1, va_rf l2)] dL_law_1361 rfl rfl (Nat.le_of_ble_eq_true rfl) (by rw [kic_6]) rfl ?_
                                                                                            refine J_goto 18 dL_law_1364 (by decide) ?_
                                                                                            refine J.pick [1, 2, 3, 0] rfl ?_
                                                                                            exact ih (l3 + (6 : Int32)) q411.2 h
                                                                                          · rw [if_neg c413] at h
                                                                                            refine J_ic 1347 dL_law_1346 rfl (0 : Int32) kic_0 ?_
                                                                                            exact J_zret rfl (by decide) dL_law_1347 (retI h)
                                                                                        · rw [if_neg c406] at h
                                                                                          rcases Classical.em ((v4 &&& (63 : Int32)) = (42 : Int32)) with c415 | c415
                                                                                          · rw [if_pos c415] at h
                                                                                            refine J_tsC c415 1348 dL_law_33 (by decide) (by decide) rfl (by decide) ?_
                                                                                            refine J_aload_n (i := 1) 1 1349 dL_law_1348 rfl rfl rfl ?_
                                                                                            obtain ⟨b417, hb417, h⟩ := some_of_bind h
                                                                                            obtain ⟨q416, hq416, h⟩ := some_of_bind h
                                                                                            refine J_cVi 1352 dL_law_1349 rfl ykX0_status (Or.inl q2192) q2193 q2194 (Nat.le_of_ble_eq_true rfl) cs_nil (by decide) [] hb417 (by decide) rfl rfl rfl (sX0_status hγ l1  σ q416 hq416) ?_
                                                                                            refine J_aload_n (i := 2) 2 1353 dL_law_1352 rfl rfl rfl ?_
                                                                                            obtain ⟨b419, hb419, h⟩ := some_of_bind h
                                                                                            obtain ⟨q418, hq418, h⟩ := some_of_bind h
                                                                                            refine J_cVi 1356 dL_law_1353 rfl ykX7_status (Or.inl q2973) q2974 q2975 (Nat.le_of_ble_eq_true rfl) (cs_int cs_nil) (by decide) [] hb419 (by decide) rfl rfl rfl (sX7_status hγ l2  q416.2 q418 hq418) ?_
                                                                                            refine J_icmp_eq 1361 1359 dL_law_1356 (by decide) rfl (fun c420 => ?_) (fun c420 => ?_)
                                                                                            · rw [if_pos c420] at h
                                                                                              refine J_iinc (i := 3) (v := l3 + (6 : Int32)) 3 1364 [(3, 1, .int (l3 + (6 : Int32))), (0, 1, va_rf l0), (1, 1, va_rf l1), (2, 1, va_rf l2)] dL_law_1361 rfl rfl (Nat.le_of_ble_eq_true rfl) (by rw [kic_6]) rfl ?_
                                                                                              refine J_goto 18 dL_law_1364 (by decide) ?_
                                                                                              refine J.pick [1, 2, 3, 0] rfl ?_
                                                                                              exact ih (l3 + (6 : Int32)) q418.2 h
                                                                                            · rw [if_neg c420] at h
                                                                                              refine J_ic 1360 dL_law_1359 rfl (0 : Int32) kic_0 ?_
                                                                                              exact J_zret rfl (by decide) dL_law_1360 (retI h)
                                                                                          · rw [if_neg c415] at h
                                                                                            refine J_tsOut 1361 dL_law_33 (by have a0 := lv_neT c5 (a := 0) (by decide); have a1 := lv_neT c16 (a := 1) (by decide); have a2 := lv_neT c27 (a := 2) (by decide); have a3 := lv_neT c40 (a := 3) (by decide); have a4 := lv_neT c51 (a := 4) (by decide); have a5 := lv_neT c68 (a := 5) (by decide); have a6 := lv_neT c77 (a := 6) (by decide); have a7 := lv_neT c84 (a := 7) (by decide); have a8 := lv_neT c91 (a := 8) (by decide); have a9 := lv_neT c98 (a := 9) (by decide); have a10 := lv_neT c105 (a := 10) (by decide); have a11 := lv_neT c112 (a := 11) (by decide); have a12 := lv_neT c119 (a := 12) (by decide); have a13 := lv_neT c126 (a := 13) (by decide); have a14 := lv_neT c135 (a := 14) (by decide); have a15 := lv_neT c146 (a := 15) (by decide); have a16 := lv_neT c159 (a := 16) (by decide); have a17 := lv_neT c170 (a := 17) (by decide); have a18 := lv_neT c177 (a := 18) (by decide); have a19 := lv_neT c184 (a := 19) (by decide); have a20 := lv_neT c195 (a := 20) (by decide); have a21 := lv_neT c206 (a := 21) (by decide); have a22 := lv_neT c217 (a := 22) (by decide); have a23 := lv_neT c226 (a := 23) (by decide); have a24 := lv_neT c235 (a := 24) (by decide); have a25 := lv_neT c246 (a := 25) (by decide); have a26 := lv_neT c257 (a := 26) (by decide); have a27 := lv_neT c268 (a := 27) (by decide); have a28 := lv_neT c279 (a := 28) (by decide); have a29 := lv_neT c290 (a := 29) (by decide); have a30 := lv_neT c299 (a := 30) (by decide); have a31 := lv_neT c308 (a := 31) (by decide); have a32 := lv_neT c319 (a := 32) (by decide); have a33 := lv_neT c326 (a := 33) (by decide); have a34 := lv_neT c333 (a := 34) (by decide); have a35 := lv_neT c342 (a := 35) (by decide); have a36 := lv_neT c353 (a := 36) (by decide); have a37 := lv_neT c366 (a := 37) (by decide); have a38 := lv_neT c377 (a := 38) (by decide); have a39 := lv_neT c388 (a := 39) (by decide); have a40 := lv_neT c397 (a := 40) (by decide); have a41 := lv_neT c406 (a := 41) (by decide); have a42 := lv_neT c415 (a := 42) (by decide); omega) (by decide) ?_
                                                                                            refine J_iinc (i := 3) (v := l3 + (6 : Int32)) 3 1364 [(3, 1, .int (l3 + (6 : Int32))), (0, 1, va_rf l0), (1, 1, va_rf l1), (2, 1, va_rf l2)] dL_law_1361 rfl rfl (Nat.le_of_ble_eq_true rfl) (by rw [kic_6]) rfl ?_
                                                                                            refine J_goto 18 dL_law_1364 (by decide) ?_
                                                                                            refine J.pick [1, 2, 3, 0] rfl ?_
                                                                                            exact ih (l3 + (6 : Int32)) σ h
def L_law (l0 : Option Nat) (σ : Hp) : Option (Int32 × Hp) :=
  (some (hsz σ)).bind fun b2 =>
  (X0_init (some (hsz σ))  (wN σ 0 0 28)).bind fun q1 =>
  (some (hsz q1)).bind fun b4 =>
  (X7_init (some (hsz q1))  (wN q1 7 0 64)).bind fun q3 =>
  L_law_c18 l0 (some (hsz σ)) (some (hsz q1))  FUEL (0 : Int32) q3
set_option maxHeartbeats 4000000 in
theorem jL_law {γ : GP} (hγ : GOK γ) (l0 : Option Nat) (σ : Hp) (q : (Int32 × Hp)) (h : L_law l0 σ = some q) : J γ mL_law (σ, .inr (some (.int q.1)), q.2) σ 0 [(0, 1, va_rf l0)] [] := by
  unfold L_law at h
  refine J_new (c9 := 0) (nsl := 28) rfl (by decide) (by decide +kernel) q180 q181 q128 3 dL_law_0 rfl ?_
  refine J_dupr 4 dL_law_3 rfl ?_
  obtain ⟨b2, hb2, h⟩ := some_of_bind h
  obtain ⟨q1, hq1, h⟩ := some_of_bind h
  refine J_cI 7 dL_law_4 rfl ykX0_init rfl (Or.inl q182) q183 rfl (Nat.le_of_ble_eq_true rfl) (cs_rf cs_nil) (by decide) [] hb2 rfl rfl (sX0_init hγ (some (hsz σ))  (wN σ 0 0 28) q1 hq1) ?_
  refine J_astore_n (i := 1) 8 [(1, 1, va_rf (some (hsz σ))), (0, 1, va_rf l0)] dL_law_7 rfl rfl (Nat.le_of_ble_eq_true rfl) rfl ?_
  refine J_new (c9 := 7) (nsl := 64) rfl (by decide) (by decide +kernel) q2196 q2197 q138 11 dL_law_8 rfl ?_
  refine J_dupr 12 dL_law_11 rfl ?_
  obtain ⟨b4, hb4, h⟩ := some_of_bind h
  obtain ⟨q3, hq3, h⟩ := some_of_bind h
  refine J_cI 15 dL_law_12 rfl ykX7_init rfl (Or.inl q2198) q2199 rfl (Nat.le_of_ble_eq_true rfl) (cs_rf cs_nil) (by decide) [] hb4 rfl rfl (sX7_init hγ (some (hsz q1))  (wN q1 7 0 64) q3 hq3) ?_
  refine J_astore_n (i := 2) 16 [(2, 1, va_rf (some (hsz q1))), (1, 1, va_rf (some (hsz σ))), (0, 1, va_rf l0)] dL_law_15 rfl rfl (Nat.le_of_ble_eq_true rfl) rfl ?_
  refine J_ic 17 dL_law_16 rfl (0 : Int32) kic_0 ?_
  refine J_istore_n (i := 3) 18 [(3, 1, .int (0 : Int32)), (2, 1, va_rf (some (hsz q1))), (1, 1, va_rf (some (hsz σ))), (0, 1, va_rf l0)] dL_law_17 rfl rfl (Nat.le_of_ble_eq_true rfl) rfl ?_
  refine J.pick [3, 2, 1, 0] rfl ?_
  refine jL_law_c18 hγ l0 (some (hsz σ)) (some (hsz q1))  FUEL (0 : Int32) q3 h
