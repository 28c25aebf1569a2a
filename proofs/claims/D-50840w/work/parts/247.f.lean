/-! STAGE 1c: functions and contracts (printed by gen/mkfuncs.py). -/
set_option maxRecDepth 100000
set_option linter.unusedVariables false
-- law, piece
noncomputable def c_L_law_23 (r23 : Option Nat → Option Nat → Option Nat → Option Nat → Int → HP → Option ((Int) × HP)) (x0 : Option Nat) (x1 : Option Nat) (x2 : Option Nat) (x3 : Option Nat) (x4 : Int) (h : HP) : Option ((Int) × HP) :=
  (alen h x0).bind fun v15 =>
  iLT (v15 - 6) x4
    (some (1, h))
    ((aldI h .int x0 x4).bind fun v16 =>
    iIN (iAnd v16 63)
      (if (iAnd v16 63) = 0 then
        (aldI h .int x0 (x4 + 1)).bind fun v17 =>
        (aldI h .int x0 (x4 + 2)).bind fun v18 =>
        (aldI h .int x0 (x4 + 3)).bind fun v19 =>
        (aldI h .int x0 (x4 + 4)).bind fun v20 =>
        (aldI h .int x0 (x4 + 5)).bind fun v21 =>
        (rcv h x1 [0]).bind fun b24 =>
        hb (f_X1_feed b24 v17 v18 v19 v20 v21 h) fun v22 h23 =>
        (aldI h23 .int x0 (x4 + 1)).bind fun v26 =>
        (aldI h23 .int x0 (x4 + 2)).bind fun v27 =>
        (aldI h23 .int x0 (x4 + 3)).bind fun v28 =>
        (aldI h23 .int x0 (x4 + 4)).bind fun v29 =>
        (aldI h23 .int x0 (x4 + 5)).bind fun v30 =>
        (rcv h23 x2 [7]).bind fun b33 =>
        hb (f_X9_feed b33 v26 v27 v28 v29 v30 h23) fun v31 h32 =>
        iEQ v22 v31
          (b_L_law_2553 r23 x0 x1 x2 x3 x4 h32)
          (some (0, h32))
      else
      if (iAnd v16 63) = 1 then
        (rcv h x1 [0]).bind fun b37 =>
        hb (f_X1_load b37 h) fun v35 h36 =>
        (rcv h36 x2 [7]).bind fun b41 =>
        hb (f_X9_load b41 h36) fun v39 h40 =>
        iEQ v35 v39
          (b_L_law_2553 r23 x0 x1 x2 x3 x4 h40)
          (some (0, h40))
      else
      if (iAnd v16 63) = 2 then
        (rcv h x1 [0]).bind fun b45 =>
        hb (f_X1_play b45 h) fun v43 h44 =>
        (rcv h44 x2 [7]).bind fun b49 =>
        hb (f_X9_play b49 h44) fun v47 h48 =>
        iEQ v43 v47
          (b_L_law_2553 r23 x0 x1 x2 x3 x4 h48)
          (some (0, h48))
      else
      if (iAnd v16 63) = 3 then
        (rcv h x1 [0]).bind fun b53 =>
        hb (f_X1_errorPosition b53 h) fun v51 h52 =>
        (rcv h52 x2 [7]).bind fun b57 =>
        hb (f_X9_errorPosition b57 h52) fun v55 h56 =>
        iEQ v51 v55
          (b_L_law_2553 r23 x0 x1 x2 x3 x4 h56)
          (some (0, h56))
      else
      if (iAnd v16 63) = 4 then
        (aldI h .int x0 (x4 + 1)).bind fun v59 =>
        hb (f_X0_size x1 v59 x3 h) fun v60 h61 =>
        (aldI h61 .int x0 (x4 + 1)).bind fun v62 =>
        (rcv h61 x2 [7]).bind fun b65 =>
        hb (f_X9_size b65 v62 h61) fun v63 h64 =>
        (rcv h64 x2 [7]).bind fun b69 =>
        hb (f_X9_thrown b69 h64) fun v67 h68 =>
        iEQ v67 v60
          (iEQ v60 0
            ((aldJ h68 x3 0).bind fun v71 =>
            iEQ (lCmp v71 (iL v63)) 0
              (b_L_law_393 r23 x0 x1 x2 x3 x4 h68)
              (some (0, h68)))
            (b_L_law_393 r23 x0 x1 x2 x3 x4 h68))
          (some (0, h68))
      else
      if (iAnd v16 63) = 5 then
        (aldI h .int x0 (x4 + 1)).bind fun v72 =>
        hb (f_X0_textAt x1 v72 x3 h) fun v73 h74 =>
        (aldI h74 .int x0 (x4 + 1)).bind fun v75 =>
        (rcv h74 x2 [7]).bind fun b78 =>
        hb (f_X9_textAt b78 v75 h74) fun v76 h77 =>
        (rcv h77 x2 [7]).bind fun b82 =>
        hb (f_X9_thrown b82 h77) fun v80 h81 =>
        iEQ v80 v73
          (iEQ v73 0
            ((aldJ h81 x3 0).bind fun v84 =>
            iEQ (lCmp v84 (iL v76)) 0
              (b_L_law_449 r23 x0 x1 x2 x3 x4 h81)
              (some (0, h81)))
            (b_L_law_449 r23 x0 x1 x2 x3 x4 h81))
          (some (0, h81))
      else
      if (iAnd v16 63) = 6 then
        (aldI h .int x0 (x4 + 1)).bind fun v85 =>
        hb (f_X0_back x1 v85 x3 h) fun v86 h87 =>
        (aldI h87 .int x0 (x4 + 1)).bind fun v88 =>
        (rcv h87 x2 [7]).bind fun b91 =>
        hb (f_X9_back b91 v88 h87) fun v89 h90 =>
        (rcv h90 x2 [7]).bind fun b95 =>
        hb (f_X9_thrown b95 h90) fun v93 h94 =>
        iEQ v93 v86
          (iEQ v86 0
            ((aldJ h94 x3 0).bind fun v97 =>
            iEQ (lCmp v97 (iL v89)) 0
              (b_L_law_505 r23 x0 x1 x2 x3 x4 h94)
              (some (0, h94)))
            (b_L_law_505 r23 x0 x1 x2 x3 x4 h94))
          (some (0, h94))
      else
      if (iAnd v16 63) = 7 then
        (aldI h .int x0 (x4 + 1)).bind fun v98 =>
        (aldI h .int x0 (x4 + 2)).bind fun v99 =>
        hb (f_X0_backIn x1 v98 v99 x3 h) fun v100 h101 =>
        (aldI h101 .int x0 (x4 + 1)).bind fun v102 =>
        (aldI h101 .int x0 (x4 + 2)).bind fun v103 =>
        (rcv h101 x2 [7]).bind fun b106 =>
        hb (f_X9_backIn b106 v102 v103 h101) fun v104 h105 =>
        (rcv h105 x2 [7]).bind fun b110 =>
        hb (f_X9_thrown b110 h105) fun v108 h109 =>
        iEQ v108 v100
          (iEQ v100 0
            ((aldJ h109 x3 0).bind fun v112 =>
            iEQ (lCmp v112 (iL v104)) 0
              (b_L_law_573 r23 x0 x1 x2 x3 x4 h109)
              (some (0, h109)))
            (b_L_law_573 r23 x0 x1 x2 x3 x4 h109))
          (some (0, h109))
      else
      if (iAnd v16 63) = 8 then
        (aldI h .int x0 (x4 + 1)).bind fun v113 =>
        (aldI h .int x0 (x4 + 2)).bind fun v114 =>
        hb (f_X0_pattern x1 v113 v114 x3 h) fun v115 h116 =>
        (aldI h116 .int x0 (x4 + 1)).bind fun v117 =>
        (aldI h116 .int x0 (x4 + 2)).bind fun v118 =>
        (rcv h116 x2 [7]).bind fun b121 =>
        hb (f_X9_pattern b121 v117 v118 h116) fun v119 h120 =>
        (rcv h120 x2 [7]).bind fun b125 =>
        hb (f_X9_thrown b125 h120) fun v123 h124 =>
        iEQ v123 v115
          (iEQ v115 0
            ((aldJ h124 x3 0).bind fun v127 =>
            iEQ (lCmp v127 (iL v119)) 0
              (b_L_law_641 r23 x0 x1 x2 x3 x4 h124)
              (some (0, h124)))
            (b_L_law_641 r23 x0 x1 x2 x3 x4 h124))
          (some (0, h124))
      else
      if (iAnd v16 63) = 9 then
        (aldI h .int x0 (x4 + 1)).bind fun v128 =>
        (aldI h .int x0 (x4 + 2)).bind fun v129 =>
        hb (f_X0_patternAt x1 v128 v129 x3 h) fun v130 h131 =>
        (aldI h131 .int x0 (x4 + 1)).bind fun v132 =>
        (aldI h131 .int x0 (x4 + 2)).bind fun v133 =>
        (rcv h131 x2 [7]).bind fun b136 =>
        hb (f_X9_patternAt b136 v132 v133 h131) fun v134 h135 =>
        (rcv h135 x2 [7]).bind fun b140 =>
        hb (f_X9_thrown b140 h135) fun v138 h139 =>
        iEQ v138 v130
          (iEQ v130 0
            ((aldJ h139 x3 0).bind fun v142 =>
            iEQ (lCmp v142 (iL v134)) 0
              (b_L_law_709 r23 x0 x1 x2 x3 x4 h139)
              (some (0, h139)))
            (b_L_law_709 r23 x0 x1 x2 x3 x4 h139))
          (some (0, h139))
      else
      if (iAnd v16 63) = 10 then
        (aldI h .int x0 (x4 + 1)).bind fun v143 =>
        (aldI h .int x0 (x4 + 2)).bind fun v144 =>
        hb (f_X0_letter x1 v143 v144 x3 h) fun v145 h146 =>
        (aldI h146 .int x0 (x4 + 1)).bind fun v147 =>
        (aldI h146 .int x0 (x4 + 2)).bind fun v148 =>
        (rcv h146 x2 [7]).bind fun b151 =>
        hb (f_X9_letter b151 v147 v148 h146) fun v149 h150 =>
        (rcv h150 x2 [7]).bind fun b155 =>
        hb (f_X9_thrown b155 h150) fun v153 h154 =>
        iEQ v153 v145
          (iEQ v145 0
            ((aldJ h154 x3 0).bind fun v157 =>
            iEQ (lCmp v157 (iL v149)) 0
              (b_L_law_777 r23 x0 x1 x2 x3 x4 h154)
              (some (0, h154)))
            (b_L_law_777 r23 x0 x1 x2 x3 x4 h154))
          (some (0, h154))
      else
      if (iAnd v16 63) = 11 then
        (aldI h .int x0 (x4 + 1)).bind fun v158 =>
        (aldI h .int x0 (x4 + 2)).bind fun v159 =>
        hb (f_X0_border x1 v158 v159 x3 h) fun v160 h161 =>
        (aldI h161 .int x0 (x4 + 1)).bind fun v162 =>
        (aldI h161 .int x0 (x4 + 2)).bind fun v163 =>
        (rcv h161 x2 [7]).bind fun b166 =>
        hb (f_X9_border b166 v162 v163 h161) fun v164 h165 =>
        (rcv h165 x2 [7]).bind fun b170 =>
        hb (f_X9_thrown b170 h165) fun v168 h169 =>
        iEQ v168 v160
          (iEQ v160 0
            ((aldJ h169 x3 0).bind fun v172 =>
            iEQ (lCmp v172 (iL v164)) 0
              (b_L_law_845 r23 x0 x1 x2 x3 x4 h169)
              (some (0, h169)))
            (b_L_law_845 r23 x0 x1 x2 x3 x4 h169))
          (some (0, h169))
      else
      if (iAnd v16 63) = 12 then
        (aldI h .int x0 (x4 + 1)).bind fun v173 =>
        hb (f_X0_markAt x1 v173 x3 h) fun v174 h175 =>
        (aldI h175 .int x0 (x4 + 1)).bind fun v176 =>
        (rcv h175 x2 [7]).bind fun b179 =>
        hb (f_X9_markAt b179 v176 h175) fun v177 h178 =>
        (rcv h178 x2 [7]).bind fun b183 =>
        hb (f_X9_thrown b183 h178) fun v181 h182 =>
        iEQ v181 v174
          (iEQ v174 0
            ((aldJ h182 x3 0).bind fun v185 =>
            iEQ (lCmp v185 (iL v177)) 0
              (b_L_law_901 r23 x0 x1 x2 x3 x4 h182)
              (some (0, h182)))
            (b_L_law_901 r23 x0 x1 x2 x3 x4 h182))
          (some (0, h182))
      else
      if (iAnd v16 63) = 13 then
        (aldI h .int x0 (x4 + 1)).bind fun v186 =>
        hb (f_X0_account x1 v186 x3 h) fun v187 h188 =>
        (aldI h188 .int x0 (x4 + 1)).bind fun v189 =>
        (rcv h188 x2 [7]).bind fun b192 =>
        hb (f_X9_account b192 v189 h188) fun v190 h191 =>
        (rcv h191 x2 [7]).bind fun b196 =>
        hb (f_X9_thrown b196 h191) fun v194 h195 =>
        iEQ v194 v187
          (iEQ v187 0
            ((aldJ h195 x3 0).bind fun v198 =>
            iEQ (lCmp v198 (iL v190)) 0
              (b_L_law_957 r23 x0 x1 x2 x3 x4 h195)
              (some (0, h195)))
            (b_L_law_957 r23 x0 x1 x2 x3 x4 h195))
          (some (0, h195))
      else
      if (iAnd v16 63) = 14 then
        (rcv h x1 [0]).bind fun b201 =>
        hb (f_X1_gap b201 h) fun v199 h200 =>
        (rcv h200 x2 [7]).bind fun b205 =>
        hb (f_X9_gap b205 h200) fun v203 h204 =>
        iEQ v199 v203
          (b_L_law_2553 r23 x0 x1 x2 x3 x4 h204)
          (some (0, h204))
      else
      if (iAnd v16 63) = 15 then
        (rcv h x1 [0]).bind fun b209 =>
        hb (f_X1_meanBack b209 h) fun v207 h208 =>
        (rcv h208 x2 [7]).bind fun b213 =>
        hb (f_X9_meanBack b213 h208) fun v211 h212 =>
        iEQ (dCmp .l v207 v211) 0
          (b_L_law_1011 r23 x0 x1 x2 x3 x4 h212)
          (iEQ (dCmp .l v207 v207) 0
            (b_L_law_1009 h212)
            (iEQ (dCmp .l v211 v211) 0
              (b_L_law_1009 h212)
              (b_L_law_1011 r23 x0 x1 x2 x3 x4 h212)))
      else
      if (iAnd v16 63) = 16 then
        (rcv h x1 [0]).bind fun b217 =>
        hb (f_X1_coveredBits b217 h) fun v215 h216 =>
        (rcv h216 x2 [7]).bind fun b221 =>
        hb (f_X9_coveredBits b221 h216) fun v219 h220 =>
        iEQ v215 v219
          (b_L_law_2553 r23 x0 x1 x2 x3 x4 h220)
          (some (0, h220))
      else
      if (iAnd v16 63) = 17 then
        (aldI h .int x0 (x4 + 1)).bind fun v223 =>
        (aldI h .int x0 (x4 + 2)).bind fun v224 =>
        hb (f_X0_isAt x1 v223 v224 x3 h) fun v225 h226 =>
        (aldI h226 .int x0 (x4 + 1)).bind fun v227 =>
        (aldI h226 .int x0 (x4 + 2)).bind fun v228 =>
        (rcv h226 x2 [7]).bind fun b231 =>
        hb (f_X9_isAt b231 v227 v228 h226) fun v229 h230 =>
        (rcv h230 x2 [7]).bind fun b235 =>
        hb (f_X9_thrown b235 h230) fun v233 h234 =>
        iEQ v233 v225
          (iEQ v225 0
            ((aldJ h234 x3 0).bind fun v237 =>
            iEQ v229 0
              (b_L_law_1093 r23 x0 x1 x2 x3 x4 0 v237 h234)
              (b_L_law_1093 r23 x0 x1 x2 x3 x4 1 v237 h234))
            (b_L_law_1099 r23 x0 x1 x2 x3 x4 h234))
          (some (0, h234))
      else
      if (iAnd v16 63) = 18 then
        (aldI h .int x0 (x4 + 1)).bind fun v238 =>
        (aldI h .int x0 (x4 + 2)).bind fun v239 =>
        hb (f_X0_why x1 v238 v239 x3 h) fun v240 h241 =>
        (aldI h241 .int x0 (x4 + 1)).bind fun v242 =>
        (aldI h241 .int x0 (x4 + 2)).bind fun v243 =>
        (rcv h241 x2 [7]).bind fun b246 =>
        hb (f_X9_why b246 v242 v243 h241) fun v244 h245 =>
        (rcv h245 x2 [7]).bind fun b250 =>
        hb (f_X9_thrown b250 h245) fun v248 h249 =>
        iEQ v248 v240
          (iEQ v240 0
            ((aldJ h249 x3 0).bind fun v252 =>
            iEQ (lCmp v252 (iL v244)) 0
              (b_L_law_1167 r23 x0 x1 x2 x3 x4 h249)
              (some (0, h249)))
            (b_L_law_1167 r23 x0 x1 x2 x3 x4 h249))
          (some (0, h249))
      else
      if (iAnd v16 63) = 19 then
        (aldI h .int x0 (x4 + 1)).bind fun v253 =>
        (aldI h .int x0 (x4 + 2)).bind fun v254 =>
        hb (f_X0_longest x1 v253 v254 x3 h) fun v255 h256 =>
        (aldI h256 .int x0 (x4 + 1)).bind fun v257 =>
        (aldI h256 .int x0 (x4 + 2)).bind fun v258 =>
        (rcv h256 x2 [7]).bind fun b261 =>
        hb (f_X9_longest b261 v257 v258 h256) fun v259 h260 =>
        (rcv h260 x2 [7]).bind fun b265 =>
        hb (f_X9_thrown b265 h260) fun v263 h264 =>
        iEQ v263 v255
          (iEQ v255 0
            ((aldJ h264 x3 0).bind fun v267 =>
            iEQ (lCmp v267 (iL v259)) 0
              (b_L_law_1235 r23 x0 x1 x2 x3 x4 h264)
              (some (0, h264)))
            (b_L_law_1235 r23 x0 x1 x2 x3 x4 h264))
          (some (0, h264))
      else
      if (iAnd v16 63) = 20 then
        (aldI h .int x0 (x4 + 1)).bind fun v268 =>
        (aldI h .int x0 (x4 + 2)).bind fun v269 =>
        (aldI h .int x0 (x4 + 3)).bind fun v270 =>
        hb (f_X0_renamed x1 v268 v269 v270 x3 h) fun v271 h272 =>
        (aldI h272 .int x0 (x4 + 1)).bind fun v273 =>
        (aldI h272 .int x0 (x4 + 2)).bind fun v274 =>
        (aldI h272 .int x0 (x4 + 3)).bind fun v275 =>
        (rcv h272 x2 [7]).bind fun b278 =>
        hb (f_X9_renamed b278 v273 v274 v275 h272) fun v276 h277 =>
        (rcv h277 x2 [7]).bind fun b282 =>
        hb (f_X9_thrown b282 h277) fun v280 h281 =>
        iEQ v280 v271
          (iEQ v271 0
            ((aldJ h281 x3 0).bind fun v284 =>
            iEQ (lCmp v284 (iL v276)) 0
              (b_L_law_1315 r23 x0 x1 x2 x3 x4 h281)
              (some (0, h281)))
            (b_L_law_1315 r23 x0 x1 x2 x3 x4 h281))
          (some (0, h281))
      else
      if (iAnd v16 63) = 21 then
        (aldI h .int x0 (x4 + 1)).bind fun v285 =>
        (aldI h .int x0 (x4 + 2)).bind fun v286 =>
        hb (f_X0_hit x1 v285 v286 x3 h) fun v287 h288 =>
        (aldI h288 .int x0 (x4 + 1)).bind fun v289 =>
        (aldI h288 .int x0 (x4 + 2)).bind fun v290 =>
        (rcv h288 x2 [7]).bind fun b293 =>
        hb (f_X9_hit b293 v289 v290 h288) fun v291 h292 =>
        (rcv h292 x2 [7]).bind fun b297 =>
        hb (f_X9_thrown b297 h292) fun v295 h296 =>
        iEQ v295 v287
          (iEQ v287 0
            ((aldJ h296 x3 0).bind fun v299 =>
            iEQ (lCmp v299 (iL v291)) 0
              (b_L_law_1383 r23 x0 x1 x2 x3 x4 h296)
              (some (0, h296)))
            (b_L_law_1383 r23 x0 x1 x2 x3 x4 h296))
          (some (0, h296))
      else
      if (iAnd v16 63) = 22 then
        (aldI h .int x0 (x4 + 1)).bind fun v300 =>
        (aldI h .int x0 (x4 + 2)).bind fun v301 =>
        hb (f_X0_candidate x1 v300 v301 x3 h) fun v302 h303 =>
        (aldI h303 .int x0 (x4 + 1)).bind fun v304 =>
        (aldI h303 .int x0 (x4 + 2)).bind fun v305 =>
        (rcv h303 x2 [7]).bind fun b308 =>
        hb (f_X9_candidate b308 v304 v305 h303) fun v306 h307 =>
        (rcv h307 x2 [7]).bind fun b312 =>
        hb (f_X9_thrown b312 h307) fun v310 h311 =>
        iEQ v310 v302
          (iEQ v302 0
            ((aldJ h311 x3 0).bind fun v314 =>
            iEQ (lCmp v314 (iL v306)) 0
              (b_L_law_1451 r23 x0 x1 x2 x3 x4 h311)
              (some (0, h311)))
            (b_L_law_1451 r23 x0 x1 x2 x3 x4 h311))
          (some (0, h311))
      else
      if (iAnd v16 63) = 23 then
        (aldI h .int x0 (x4 + 1)).bind fun v315 =>
        (aldI h .int x0 (x4 + 2)).bind fun v316 =>
        (aldI h .int x0 (x4 + 3)).bind fun v317 =>
        hb (f_X0_alike x1 v315 v316 v317 x3 h) fun v318 h319 =>
        (aldI h319 .int x0 (x4 + 1)).bind fun v320 =>
        (aldI h319 .int x0 (x4 + 2)).bind fun v321 =>
        (aldI h319 .int x0 (x4 + 3)).bind fun v322 =>
        (rcv h319 x2 [7]).bind fun b325 =>
        hb (f_X9_alike b325 v320 v321 v322 h319) fun v323 h324 =>
        (rcv h324 x2 [7]).bind fun b329 =>
        hb (f_X9_thrown b329 h324) fun v327 h328 =>
        iEQ v327 v318
          (iEQ v318 0
            ((aldJ h328 x3 0).bind fun v331 =>
            iEQ v323 0
              (b_L_law_1532 r23 x0 x1 x2 x3 x4 0 v331 h328)
              (b_L_law_1532 r23 x0 x1 x2 x3 x4 1 v331 h328))
            (b_L_law_1538 r23 x0 x1 x2 x3 x4 h328))
          (some (0, h328))
      else
      if (iAnd v16 63) = 24 then
        (aldI h .int x0 (x4 + 1)).bind fun v332 =>
        hb (f_X0_classes x1 v332 x3 h) fun v333 h334 =>
        (aldI h334 .int x0 (x4 + 1)).bind fun v335 =>
        (rcv h334 x2 [7]).bind fun b338 =>
        hb (f_X9_classes b338 v335 h334) fun v336 h337 =>
        (rcv h337 x2 [7]).bind fun b342 =>
        hb (f_X9_thrown b342 h337) fun v340 h341 =>
        iEQ v340 v333
          (iEQ v333 0
            ((aldJ h341 x3 0).bind fun v344 =>
            iEQ (lCmp v344 (iL v336)) 0
              (b_L_law_1594 r23 x0 x1 x2 x3 x4 h341)
              (some (0, h341)))
            (b_L_law_1594 r23 x0 x1 x2 x3 x4 h341))
          (some (0, h341))
      else
      if (iAnd v16 63) = 25 then
        (rcv h x1 [0]).bind fun b347 =>
        hb (f_X1_longestTwin b347 h) fun v345 h346 =>
        (rcv h346 x2 [7]).bind fun b351 =>
        hb (f_X9_longestTwin b351 h346) fun v349 h350 =>
        iEQ v345 v349
          (b_L_law_2553 r23 x0 x1 x2 x3 x4 h350)
          (some (0, h350))
      else
      if (iAnd v16 63) = 26 then
        (aldI h .int x0 (x4 + 1)).bind fun v353 =>
        (aldI h .int x0 (x4 + 2)).bind fun v354 =>
        (aldI h .int x0 (x4 + 3)).bind fun v355 =>
        hb (f_X0_hitsIf x1 v353 v354 v355 x3 h) fun v356 h357 =>
        (aldI h357 .int x0 (x4 + 1)).bind fun v358 =>
        (aldI h357 .int x0 (x4 + 2)).bind fun v359 =>
        (aldI h357 .int x0 (x4 + 3)).bind fun v360 =>
        (rcv h357 x2 [7]).bind fun b363 =>
        hb (f_X9_hitsIf b363 v358 v359 v360 h357) fun v361 h362 =>
        (rcv h362 x2 [7]).bind fun b367 =>
        hb (f_X9_thrown b367 h362) fun v365 h366 =>
        iEQ v365 v356
          (iEQ v356 0
            ((aldJ h366 x3 0).bind fun v369 =>
            iEQ (lCmp v369 (iL v361)) 0
              (b_L_law_1687 r23 x0 x1 x2 x3 x4 h366)
              (some (0, h366)))
            (b_L_law_1687 r23 x0 x1 x2 x3 x4 h366))
          (some (0, h366))
      else
      if (iAnd v16 63) = 27 then
        (aldI h .int x0 (x4 + 1)).bind fun v370 =>
        hb (f_X0_bestPut x1 v370 x3 h) fun v371 h372 =>
        (aldI h372 .int x0 (x4 + 1)).bind fun v373 =>
        (rcv h372 x2 [7]).bind fun b376 =>
        hb (f_X9_bestPut b376 v373 h372) fun v374 h375 =>
        (rcv h375 x2 [7]).bind fun b380 =>
        hb (f_X9_thrown b380 h375) fun v378 h379 =>
        iEQ v378 v371
          (iEQ v371 0
            ((aldJ h379 x3 0).bind fun v382 =>
            iEQ (lCmp v382 (iL v374)) 0
              (b_L_law_1743 r23 x0 x1 x2 x3 x4 h379)
              (some (0, h379)))
            (b_L_law_1743 r23 x0 x1 x2 x3 x4 h379))
          (some (0, h379))
      else
      if (iAnd v16 63) = 28 then
        (aldI h .int x0 (x4 + 1)).bind fun v383 =>
        hb (f_X0_bestFirm x1 v383 x3 h) fun v384 h385 =>
        (aldI h385 .int x0 (x4 + 1)).bind fun v386 =>
        (rcv h385 x2 [7]).bind fun b389 =>
        hb (f_X9_bestFirm b389 v386 h385) fun v387 h388 =>
        (rcv h388 x2 [7]).bind fun b393 =>
        hb (f_X9_thrown b393 h388) fun v391 h392 =>
        iEQ v391 v384
          (iEQ v384 0
            ((aldJ h392 x3 0).bind fun v395 =>
            iEQ (lCmp v395 (iL v387)) 0
              (b_L_law_1799 r23 x0 x1 x2 x3 x4 h392)
              (some (0, h392)))
            (b_L_law_1799 r23 x0 x1 x2 x3 x4 h392))
          (some (0, h392))
      else
      if (iAnd v16 63) = 29 then
        (aldI h .int x0 (x4 + 1)).bind fun v396 =>
        hb (f_X0_lostIf x1 v396 x3 h) fun v397 h398 =>
        (aldI h398 .int x0 (x4 + 1)).bind fun v399 =>
        (rcv h398 x2 [7]).bind fun b402 =>
        hb (f_X9_lostIf b402 v399 h398) fun v400 h401 =>
        (rcv h401 x2 [7]).bind fun b406 =>
        hb (f_X9_thrown b406 h401) fun v404 h405 =>
        iEQ v404 v397
          (iEQ v397 0
            ((aldJ h405 x3 0).bind fun v408 =>
            iEQ (lCmp v408 (iL v400)) 0
              (b_L_law_1855 r23 x0 x1 x2 x3 x4 h405)
              (some (0, h405)))
            (b_L_law_1855 r23 x0 x1 x2 x3 x4 h405))
          (some (0, h405))
      else
      if (iAnd v16 63) = 30 then
        (aldI h .int x0 (x4 + 1)).bind fun v409 =>
        (aldI h .int x0 (x4 + 2)).bind fun v410 =>
        hb (f_X0_put x1 v409 v410 x3 h) fun v411 h412 =>
        (aldI h412 .int x0 (x4 + 1)).bind fun v413 =>
        (aldI h412 .int x0 (x4 + 2)).bind fun v414 =>
        (rcv h412 x2 [7]).bind fun b417 =>
        hb (f_X9_put b417 v413 v414 h412) fun v415 h416 =>
        (rcv h416 x2 [7]).bind fun b421 =>
        hb (f_X9_thrown b421 h416) fun v419 h420 =>
        iEQ v419 v411
          (iEQ v411 0
            ((aldJ h420 x3 0).bind fun v423 =>
            iEQ (lCmp v423 (iL v415)) 0
              (b_L_law_1923 r23 x0 x1 x2 x3 x4 h420)
              (some (0, h420)))
            (b_L_law_1923 r23 x0 x1 x2 x3 x4 h420))
          (some (0, h420))
      else
      if (iAnd v16 63) = 31 then
        (aldI h .int x0 (x4 + 1)).bind fun v424 =>
        (aldI h .int x0 (x4 + 2)).bind fun v425 =>
        hb (f_X0_insert x1 v424 v425 x3 h) fun v426 h427 =>
        (aldI h427 .int x0 (x4 + 1)).bind fun v428 =>
        (aldI h427 .int x0 (x4 + 2)).bind fun v429 =>
        (rcv h427 x2 [7]).bind fun b432 =>
        hb (f_X9_insert b432 v428 v429 h427) fun v430 h431 =>
        (rcv h431 x2 [7]).bind fun b436 =>
        hb (f_X9_thrown b436 h431) fun v434 h435 =>
        iEQ v434 v426
          (iEQ v426 0
            ((aldJ h435 x3 0).bind fun v438 =>
            iEQ (lCmp v438 (iL v430)) 0
              (b_L_law_1991 r23 x0 x1 x2 x3 x4 h435)
              (some (0, h435)))
            (b_L_law_1991 r23 x0 x1 x2 x3 x4 h435))
          (some (0, h435))
      else
      if (iAnd v16 63) = 32 then
        (aldI h .int x0 (x4 + 1)).bind fun v439 =>
        hb (f_X0_erase x1 v439 x3 h) fun v440 h441 =>
        (aldI h441 .int x0 (x4 + 1)).bind fun v442 =>
        (rcv h441 x2 [7]).bind fun b445 =>
        hb (f_X9_erase b445 v442 h441) fun v443 h444 =>
        (rcv h444 x2 [7]).bind fun b449 =>
        hb (f_X9_thrown b449 h444) fun v447 h448 =>
        iEQ v447 v440
          (iEQ v440 0
            ((aldJ h448 x3 0).bind fun v451 =>
            iEQ (lCmp v451 (iL v443)) 0
              (b_L_law_2047 r23 x0 x1 x2 x3 x4 h448)
              (some (0, h448)))
            (b_L_law_2047 r23 x0 x1 x2 x3 x4 h448))
          (some (0, h448))
      else
      if (iAnd v16 63) = 33 then
        (aldI h .int x0 (x4 + 1)).bind fun v452 =>
        hb (f_X0_mark x1 v452 x3 h) fun v453 h454 =>
        (aldI h454 .int x0 (x4 + 1)).bind fun v455 =>
        (rcv h454 x2 [7]).bind fun b458 =>
        hb (f_X9_mark b458 v455 h454) fun v456 h457 =>
        (rcv h457 x2 [7]).bind fun b462 =>
        hb (f_X9_thrown b462 h457) fun v460 h461 =>
        iEQ v460 v453
          (iEQ v453 0
            ((aldJ h461 x3 0).bind fun v464 =>
            iEQ (lCmp v464 (iL v456)) 0
              (b_L_law_2103 r23 x0 x1 x2 x3 x4 h461)
              (some (0, h461)))
            (b_L_law_2103 r23 x0 x1 x2 x3 x4 h461))
          (some (0, h461))
      else
      if (iAnd v16 63) = 34 then
        (aldI h .int x0 (x4 + 1)).bind fun v465 =>
        hb (f_X0_unmark x1 v465 x3 h) fun v466 h467 =>
        (aldI h467 .int x0 (x4 + 1)).bind fun v468 =>
        (rcv h467 x2 [7]).bind fun b471 =>
        hb (f_X9_unmark b471 v468 h467) fun v469 h470 =>
        (rcv h470 x2 [7]).bind fun b475 =>
        hb (f_X9_thrown b475 h470) fun v473 h474 =>
        iEQ v473 v466
          (iEQ v466 0
            ((aldJ h474 x3 0).bind fun v477 =>
            iEQ (lCmp v477 (iL v469)) 0
              (b_L_law_2159 r23 x0 x1 x2 x3 x4 h474)
              (some (0, h474)))
            (b_L_law_2159 r23 x0 x1 x2 x3 x4 h474))
          (some (0, h474))
      else
      if (iAnd v16 63) = 35 then
        (aldI h .int x0 (x4 + 1)).bind fun v478 =>
        (aldI h .int x0 (x4 + 2)).bind fun v479 =>
        (aldI h .int x0 (x4 + 3)).bind fun v480 =>
        (aldI h .int x0 (x4 + 4)).bind fun v481 =>
        hb (f_X0_swap x1 v478 v479 v480 v481 x3 h) fun v482 h483 =>
        (aldI h483 .int x0 (x4 + 1)).bind fun v484 =>
        (aldI h483 .int x0 (x4 + 2)).bind fun v485 =>
        (aldI h483 .int x0 (x4 + 3)).bind fun v486 =>
        (aldI h483 .int x0 (x4 + 4)).bind fun v487 =>
        (rcv h483 x2 [7]).bind fun b490 =>
        hb (f_X9_swap b490 v484 v485 v486 v487 h483) fun v488 h489 =>
        (rcv h489 x2 [7]).bind fun b494 =>
        hb (f_X9_thrown b494 h489) fun v492 h493 =>
        iEQ v492 v482
          (iEQ v482 0
            ((aldJ h493 x3 0).bind fun v496 =>
            iEQ (lCmp v496 (iL v488)) 0
              (b_L_law_2251 r23 x0 x1 x2 x3 x4 h493)
              (some (0, h493)))
            (b_L_law_2251 r23 x0 x1 x2 x3 x4 h493))
          (some (0, h493))
      else
      if (iAnd v16 63) = 36 then
        (aldI h .int x0 (x4 + 1)).bind fun v497 =>
        (aldI h .int x0 (x4 + 2)).bind fun v498 =>
        (aldI h .int x0 (x4 + 3)).bind fun v499 =>
        hb (f_X0_take x1 v497 v498 v499 x3 h) fun v500 h501 =>
        (aldI h501 .int x0 (x4 + 1)).bind fun v502 =>
        (aldI h501 .int x0 (x4 + 2)).bind fun v503 =>
        (aldI h501 .int x0 (x4 + 3)).bind fun v504 =>
        (rcv h501 x2 [7]).bind fun b507 =>
        hb (f_X9_take b507 v502 v503 v504 h501) fun v505 h506 =>
        (rcv h506 x2 [7]).bind fun b511 =>
        hb (f_X9_thrown b511 h506) fun v509 h510 =>
        iEQ v509 v500
          (iEQ v500 0
            ((aldJ h510 x3 0).bind fun v513 =>
            iEQ (lCmp v513 (iL v505)) 0
              (b_L_law_2331 r23 x0 x1 x2 x3 x4 h510)
              (some (0, h510)))
            (b_L_law_2331 r23 x0 x1 x2 x3 x4 h510))
          (some (0, h510))
      else
      if (iAnd v16 63) = 37 then
        (aldI h .int x0 (x4 + 1)).bind fun v514 =>
        hb (f_X0_setFirm x1 v514 x3 h) fun v515 h516 =>
        (aldI h516 .int x0 (x4 + 1)).bind fun v517 =>
        (rcv h516 x2 [7]).bind fun b520 =>
        hb (f_X9_setFirm b520 v517 h516) fun v518 h519 =>
        (rcv h519 x2 [7]).bind fun b524 =>
        hb (f_X9_thrown b524 h519) fun v522 h523 =>
        iEQ v522 v515
          (iEQ v515 0
            ((aldJ h523 x3 0).bind fun v526 =>
            iEQ (lCmp v526 (iL v518)) 0
              (b_L_law_2387 r23 x0 x1 x2 x3 x4 h523)
              (some (0, h523)))
            (b_L_law_2387 r23 x0 x1 x2 x3 x4 h523))
          (some (0, h523))
      else
      if (iAnd v16 63) = 38 then
        (rcv h x1 [0]).bind fun b529 =>
        hb (f_X1_report b529 h) fun v527 h528 =>
        (rcv h528 x2 [7]).bind fun b533 =>
        hb (f_X9_report b533 h528) fun v531 h532 =>
        iEQ v527 v531
          (b_L_law_2553 r23 x0 x1 x2 x3 x4 h532)
          (some (0, h532))
      else
      if (iAnd v16 63) = 39 then
        (aldI h .int x0 (x4 + 1)).bind fun v535 =>
        (rcv h x1 [0]).bind fun b538 =>
        hb (f_X1_reportByte b538 v535 h) fun v536 h537 =>
        (aldI h537 .int x0 (x4 + 1)).bind fun v540 =>
        (rcv h537 x2 [7]).bind fun b543 =>
        hb (f_X9_reportByte b543 v540 h537) fun v541 h542 =>
        iEQ v536 v541
          (b_L_law_2553 r23 x0 x1 x2 x3 x4 h542)
          (some (0, h542))
      else
      if (iAnd v16 63) = 40 then
        (rcv h x1 [0]).bind fun b547 =>
        hb (f_X1_undo b547 h) fun v545 h546 =>
        (rcv h546 x2 [7]).bind fun b551 =>
        hb (f_X9_undo b551 h546) fun v549 h550 =>
        iEQ v545 v549
          (b_L_law_2553 r23 x0 x1 x2 x3 x4 h550)
          (some (0, h550))
      else
      if (iAnd v16 63) = 41 then
        (aldI h .int x0 (x4 + 1)).bind fun v553 =>
        hb (f_X0_save x1 v553 x3 h) fun v554 h555 =>
        (aldI h555 .int x0 (x4 + 1)).bind fun v556 =>
        (rcv h555 x2 [7]).bind fun b559 =>
        hb (f_X9_save b559 v556 h555) fun v557 h558 =>
        (rcv h558 x2 [7]).bind fun b563 =>
        hb (f_X9_thrown b563 h558) fun v561 h562 =>
        iEQ v561 v554
          (iEQ v554 0
            ((aldJ h562 x3 0).bind fun v565 =>
            iEQ (lCmp v565 (iL v557)) 0
              (b_L_law_2494 r23 x0 x1 x2 x3 x4 h562)
              (some (0, h562)))
            (b_L_law_2494 r23 x0 x1 x2 x3 x4 h562))
          (some (0, h562))
      else
      if (iAnd v16 63) = 42 then
        (aldI h .int x0 (x4 + 1)).bind fun v566 =>
        hb (f_X0_restore x1 v566 x3 h) fun v567 h568 =>
        (aldI h568 .int x0 (x4 + 1)).bind fun v569 =>
        (rcv h568 x2 [7]).bind fun b572 =>
        hb (f_X9_restore b572 v569 h568) fun v570 h571 =>
        (rcv h571 x2 [7]).bind fun b576 =>
        hb (f_X9_thrown b576 h571) fun v574 h575 =>
        iEQ v574 v567
          (iEQ v567 0
            ((aldJ h575 x3 0).bind fun v578 =>
            iEQ (lCmp v578 (iL v570)) 0
              (b_L_law_2550 r23 x0 x1 x2 x3 x4 h575)
              (some (0, h575)))
            (b_L_law_2550 r23 x0 x1 x2 x3 x4 h575))
          (some (0, h575))
      else
      b_L_law_2553 r23 x0 x1 x2 x3 x4 h))
noncomputable def b_L_law_23 : Option Nat → Option Nat → Option Nat → Option Nat → Int → HP → Option ((Int) × HP) := fx (fun _ _ _ _ _ _ => none) (c_L_law_23) FU
theorem C_L_law_23 {M : hp_M} {G : va_G} {h0 : HP} (X : hp_X M G h0 "RenamedWordsLaw" "law" cL_law 9 (some .boolean) [] 8192 104096) (r23 : Option Nat → Option Nat → Option Nat → Option Nat → Int → HP → Option ((Int) × HP)) (hr23 : ∀ (y0 : Option Nat) (y1 : Option Nat) (y2 : Option Nat) (y3 : Option Nat) (y4 : Int) (h : HP), vv M G h0 9 (hp_End M G h0) jI h 23 [(0, LR y0), (1, LR y1), (2, LR y2), (3, LR y3), (4, LI y4)] [] (r23 y0 y1 y2 y3 y4 h)) (x0 : Option Nat) (x1 : Option Nat) (x2 : Option Nat) (x3 : Option Nat) (x4 : Int) (h : HP) : vv M G h0 9 (hp_End M G h0) jI h 23 [(0, LR x0), (1, LR x1), (2, LR x2), (3, LR x3), (4, LI x4)] [] (c_L_law_23 r23 x0 x1 x2 x3 x4 h) := by
  unfold c_L_law_23
  refine vv_iload (pc := 23) X 4 rfl dL_law_23 ?_
  refine vv_aload_n (pc := 25) X (kf := 0) (i := 0) rfl 0 rfl dL_law_25 ?_
  refine vv_alen (pc := 26) X dL_law_26 (fun v15 => ?_)
  refine vv_bipush (pc := 27) X (by decide) dL_law_27 ?_
  refine vv_isub (pc := 29) X dL_law_29 ?_
  refine vv_icmp_gt (pc := 30) (tgt := 2559) X dL_law_30 rfl ?_ ?_
  · refine vv_iconst (pc := 2559) X dL_law_2559 ?_
    exact vv_iret1 X rfl rfl dL_law_2560
  · refine vv_aload_n (pc := 33) X (kf := 0) (i := 0) rfl 0 rfl dL_law_33 ?_
    refine vv_iload (pc := 34) X 4 rfl dL_law_34 ?_
    refine vv_iaload (pc := 36) X dL_law_36 (fun v16 => ?_)
    refine vv_bipush (pc := 37) X (by decide) dL_law_37 ?_
    refine vv_iand (pc := 39) X dL_law_39 ?_
    refine vv_iIN (fun hr => ?_)
    refine vv_if (fun e0 => ?_) (fun e0 => ?_)
    · refine vv_tsw (pc := 40) (off := 188) (tgt := 228) X dL_law_40 hr (by omega) (by omega) (by rw [e0]; rfl) rfl ?_
      refine vv_aload_n (pc := 228) X (kf := 1) (i := 1) rfl 1 rfl dL_law_228 ?_
      refine vv_aload_n (pc := 229) X (kf := 0) (i := 0) rfl 0 rfl dL_law_229 ?_
      refine vv_iload (pc := 230) X 4 rfl dL_law_230 ?_
      refine vv_iconst (pc := 232) X dL_law_232 ?_
      refine vv_iadd (pc := 233) X dL_law_233 ?_
      refine vv_iaload (pc := 234) X dL_law_234 (fun v17 => ?_)
      refine vv_aload_n (pc := 235) X (kf := 0) (i := 0) rfl 0 rfl dL_law_235 ?_
      refine vv_iload (pc := 236) X 4 rfl dL_law_236 ?_
      refine vv_iconst (pc := 238) X dL_law_238 ?_
      refine vv_iadd (pc := 239) X dL_law_239 ?_
      refine vv_iaload (pc := 240) X dL_law_240 (fun v18 => ?_)
      refine vv_aload_n (pc := 241) X (kf := 0) (i := 0) rfl 0 rfl dL_law_241 ?_
      refine vv_iload (pc := 242) X 4 rfl dL_law_242 ?_
      refine vv_iconst (pc := 244) X dL_law_244 ?_
      refine vv_iadd (pc := 245) X dL_law_245 ?_
      refine vv_iaload (pc := 246) X dL_law_246 (fun v19 => ?_)
      refine vv_aload_n (pc := 247) X (kf := 0) (i := 0) rfl 0 rfl dL_law_247 ?_
      refine vv_iload (pc := 248) X 4 rfl dL_law_248 ?_
      refine vv_iconst (pc := 250) X dL_law_250 ?_
      refine vv_iadd (pc := 251) X dL_law_251 ?_
      refine vv_iaload (pc := 252) X dL_law_252 (fun v20 => ?_)
      refine vv_aload_n (pc := 253) X (kf := 0) (i := 0) rfl 0 rfl dL_law_253 ?_
      refine vv_iload (pc := 254) X 4 rfl dL_law_254 ?_
      refine vv_iconst (pc := 256) X dL_law_256 ?_
      refine vv_iadd (pc := 257) X dL_law_257 ?_
      refine vv_iaload (pc := 258) X dL_law_258 (fun v21 => ?_)
      refine vv_rcv (fun b24 t9 c9 fs9 e25 g9 k9 => ?_)
      cases List.mem_singleton.mp k9
      refine vv_callI (pc := 259) (rest := []) (by rw [e25]; rfl) (fun r8 k8 e8 => zz_callV X (m_X1_feed (hlM X) _ _ _ _ _ _ _ _ _ e8) g9 rfl rfl q828 q829 q830 q132 q831 nh_X1 rfl (by decide) (by decide) (Nat.le_of_ble_eq_true rfl) dL_law_259) (fun v22 h23 => ?_)
      refine vv_aload_n (pc := 262) X (kf := 2) (i := 2) rfl 2 rfl dL_law_262 ?_
      refine vv_aload_n (pc := 263) X (kf := 0) (i := 0) rfl 0 rfl dL_law_263 ?_
      refine vv_iload (pc := 264) X 4 rfl dL_law_264 ?_
      refine vv_iconst (pc := 266) X dL_law_266 ?_
      refine vv_iadd (pc := 267) X dL_law_267 ?_
      refine vv_iaload (pc := 268) X dL_law_268 (fun v26 => ?_)
      refine vv_aload_n (pc := 269) X (kf := 0) (i := 0) rfl 0 rfl dL_law_269 ?_
      refine vv_iload (pc := 270) X 4 rfl dL_law_270 ?_
      refine vv_iconst (pc := 272) X dL_law_272 ?_
      refine vv_iadd (pc := 273) X dL_law_273 ?_
      refine vv_iaload (pc := 274) X dL_law_274 (fun v27 => ?_)
      refine vv_aload_n (pc := 275) X (kf := 0) (i := 0) rfl 0 rfl dL_law_275 ?_
      refine vv_iload (pc := 276) X 4 rfl dL_law_276 ?_
      refine vv_iconst (pc := 278) X dL_law_278 ?_
      refine vv_iadd (pc := 279) X dL_law_279 ?_
      refine vv_iaload (pc := 280) X dL_law_280 (fun v28 => ?_)
      refine vv_aload_n (pc := 281) X (kf := 0) (i := 0) rfl 0 rfl dL_law_281 ?_
      refine vv_iload (pc := 282) X 4 rfl dL_law_282 ?_
      refine vv_iconst (pc := 284) X dL_law_284 ?_
      refine vv_iadd (pc := 285) X dL_law_285 ?_
      refine vv_iaload (pc := 286) X dL_law_286 (fun v29 => ?_)
      refine vv_aload_n (pc := 287) X (kf := 0) (i := 0) rfl 0 rfl dL_law_287 ?_
      refine vv_iload (pc := 288) X 4 rfl dL_law_288 ?_
      refine vv_iconst (pc := 290) X dL_law_290 ?_
      refine vv_iadd (pc := 291) X dL_law_291 ?_
      refine vv_iaload (pc := 292) X dL_law_292 (fun v30 => ?_)
      refine vv_rcv (fun b33 t9 c9 fs9 e34 g9 k9 => ?_)
      cases List.mem_singleton.mp k9
      refine vv_callI (pc := 293) (rest := [LI v22]) (by rw [e34]; rfl) (fun r8 k8 e8 => zz_callV X (m_X9_feed (hlM X) _ _ _ _ _ _ _ _ _ e8) g9 rfl rfl q3552 q3553 q3554 q164 q3555 nh_X9 rfl (by decide) (by decide) (Nat.le_of_ble_eq_true rfl) dL_law_293) (fun v31 h32 => ?_)
      refine vv_icmp_eq (pc := 296) (tgt := 2553) X dL_law_296 rfl ?_ ?_
      · exact B_L_law_2553 X r23 hr23 _ _ _ _ _ _
      · refine vv_iconst (pc := 299) X dL_law_299 ?_
        exact vv_iret0 X rfl rfl dL_law_300
    refine vv_if (fun e1 => ?_) (fun e1 => ?_)
    · refine vv_tsw (pc := 40) (off := 261) (tgt := 301) X dL_law_40 hr (by omega) (by omega) (by rw [e1]; rfl) rfl ?_
      refine vv_aload_n (pc := 301) X (kf := 1) (i := 1) rfl 1 rfl dL_law_301 ?_
      refine vv_rcv (fun b37 t9 c9 fs9 e38 g9 k9 => ?_)
      cases List.mem_singleton.mp k9
      refine vv_callI (pc := 302) (rest := []) (by rw [e38]; rfl) (fun r8 k8 e8 => zz_callVX X (m_X1_load (hlM X) _ _ _ _ e8) g9 rfl rfl q842 q843 q844 q132 q845 nh_X1 rfl (by decide) (by decide) (Nat.le_of_ble_eq_true rfl) dL_law_302) (fun v35 h36 => ?_)
      refine vv_aload_n (pc := 305) X (kf := 2) (i := 2) rfl 2 rfl dL_law_305 ?_
      refine vv_rcv (fun b41 t9 c9 fs9 e42 g9 k9 => ?_)
      cases List.mem_singleton.mp k9
      refine vv_callI (pc := 306) (rest := [LI v35]) (by rw [e42]; rfl) (fun r8 k8 e8 => zz_callV X (m_X9_load (hlM X) _ _ _ _ e8) g9 rfl rfl q3566 q3567 q3568 q164 q3569 nh_X9 rfl (by decide) (by decide) (Nat.le_of_ble_eq_true rfl) dL_law_306) (fun v39 h40 => ?_)
      refine vv_icmp_eq (pc := 309) (tgt := 2553) X dL_law_309 rfl ?_ ?_
      · exact B_L_law_2553 X r23 hr23 _ _ _ _ _ _
      · refine vv_iconst (pc := 312) X dL_law_312 ?_
        exact vv_iret0 X rfl rfl dL_law_313
    refine vv_if (fun e2 => ?_) (fun e2 => ?_)
    · refine vv_tsw (pc := 40) (off := 274) (tgt := 314) X dL_law_40 hr (by omega) (by omega) (by rw [e2]; rfl) rfl ?_
      refine vv_aload_n (pc := 314) X (kf := 1) (i := 1) rfl 1 rfl dL_law_314 ?_
      refine vv_rcv (fun b45 t9 c9 fs9 e46 g9 k9 => ?_)
      cases List.mem_singleton.mp k9
      refine vv_callI (pc := 315) (rest := []) (by rw [e46]; rfl) (fun r8 k8 e8 => zz_callVX X (m_X1_play (hlM X) _ _ _ _ e8) g9 rfl rfl q1836 q1837 q1838 q132 q1839 nh_X1 rfl (by decide) (by decide) (Nat.le_of_ble_eq_true rfl) dL_law_315) (fun v43 h44 => ?_)
      refine vv_aload_n (pc := 318) X (kf := 2) (i := 2) rfl 2 rfl dL_law_318 ?_
      refine vv_rcv (fun b49 t9 c9 fs9 e50 g9 k9 => ?_)
      cases List.mem_singleton.mp k9
      refine vv_callI (pc := 319) (rest := [LI v43]) (by rw [e50]; rfl) (fun r8 k8 e8 => zz_callV X (m_X9_play (hlM X) _ _ _ _ e8) g9 rfl rfl q3666 q3667 q3668 q164 q3669 nh_X9 rfl (by decide) (by decide) (Nat.le_of_ble_eq_true rfl) dL_law_319) (fun v47 h48 => ?_)
      refine vv_icmp_eq (pc := 322) (tgt := 2553) X dL_law_322 rfl ?_ ?_
      · exact B_L_law_2553 X r23 hr23 _ _ _ _ _ _
      · refine vv_iconst (pc := 325) X dL_law_325 ?_
        exact vv_iret0 X rfl rfl dL_law_326
    refine vv_if (fun e3 => ?_) (fun e3 => ?_)
    · refine vv_tsw (pc := 40) (off := 287) (tgt := 327) X dL_law_40 hr (by omega) (by omega) (by rw [e3]; rfl) rfl ?_
      refine vv_aload_n (pc := 327) X (kf := 1) (i := 1) rfl 1 rfl dL_law_327 ?_
      refine vv_rcv (fun b53 t9 c9 fs9 e54 g9 k9 => ?_)
      cases List.mem_singleton.mp k9
      refine vv_callI (pc := 328) (rest := []) (by rw [e54]; rfl) (fun r8 k8 e8 => zz_callV X (m_X1_errorPosition (hlM X) _ _ _ _ e8) g9 rfl rfl q2827 q2828 q2829 q132 q2830 nh_X1 rfl (by decide) (by decide) (Nat.le_of_ble_eq_true rfl) dL_law_328) (fun v51 h52 => ?_)
      refine vv_aload_n (pc := 331) X (kf := 2) (i := 2) rfl 2 rfl dL_law_331 ?_
      refine vv_rcv (fun b57 t9 c9 fs9 e58 g9 k9 => ?_)
      cases List.mem_singleton.mp k9
      refine vv_callI (pc := 332) (rest := [LI v51]) (by rw [e58]; rfl) (fun r8 k8 e8 => zz_callV X (m_X9_errorPosition (hlM X) _ _ _ _ e8) g9 rfl rfl q3662 q3663 q3664 q164 q3665 nh_X9 rfl (by decide) (by decide) (Nat.le_of_ble_eq_true rfl) dL_law_332) (fun v55 h56 => ?_)
      refine vv_icmp_eq (pc := 335) (tgt := 2553) X dL_law_335 rfl ?_ ?_
      · exact B_L_law_2553 X r23 hr23 _ _ _ _ _ _
      · refine vv_iconst (pc := 338) X dL_law_338 ?_
        exact vv_iret0 X rfl rfl dL_law_339
    refine vv_if (fun e4 => ?_) (fun e4 => ?_)
    · refine vv_tsw (pc := 40) (off := 300) (tgt := 340) X dL_law_40 hr (by omega) (by omega) (by rw [e4]; rfl) rfl ?_
      refine vv_aload_n (pc := 340) X (kf := 1) (i := 1) rfl 1 rfl dL_law_340 ?_
      refine vv_aload_n (pc := 341) X (kf := 0) (i := 0) rfl 0 rfl dL_law_341 ?_
      refine vv_iload (pc := 342) X 4 rfl dL_law_342 ?_
      refine vv_iconst (pc := 344) X dL_law_344 ?_
      refine vv_iadd (pc := 345) X dL_law_345 ?_
      refine vv_iaload (pc := 346) X dL_law_346 (fun v59 => ?_)
      refine vv_aload_n (pc := 347) X (kf := 3) (i := 3) rfl 3 rfl dL_law_347 ?_
      refine vv_callI (pc := 348) (rest := []) (by rfl) (fun r8 k8 e8 => zz_callSX X (m_X0_size (hlM X) _ _ _ _ _ _ e8) q3010 q3011 q131 q3012 nh_X0 rfl (by decide) (by decide) (Nat.le_of_ble_eq_true rfl) dL_law_348) (fun v60 h61 => ?_)
      refine vv_istore (pc := 351) (lv' := [(5, LI v60), (0, LR x0), (1, LR x1), (2, LR x2), (3, LR x3), (4, LI x4)]) X (by decide) rfl dL_law_351 ?_
      refine vv_aload_n (pc := 353) X (kf := 2) (i := 2) rfl 3 rfl dL_law_353 ?_
      refine vv_aload_n (pc := 354) X (kf := 0) (i := 0) rfl 1 rfl dL_law_354 ?_
      refine vv_iload (pc := 355) X 5 rfl dL_law_355 ?_
      refine vv_iconst (pc := 357) X dL_law_357 ?_
      refine vv_iadd (pc := 358) X dL_law_358 ?_
      refine vv_iaload (pc := 359) X dL_law_359 (fun v62 => ?_)
      refine vv_rcv (fun b65 t9 c9 fs9 e66 g9 k9 => ?_)
      cases List.mem_singleton.mp k9
      refine vv_callI (pc := 360) (rest := []) (by rw [e66]; rfl) (fun r8 k8 e8 => zz_callV X (m_X9_size (hlM X) _ _ _ _ _ e8) g9 rfl rfl q3837 q3838 q3839 q164 q3840 nh_X9 rfl (by decide) (by decide) (Nat.le_of_ble_eq_true rfl) dL_law_360) (fun v63 h64 => ?_)
      refine vv_istore (pc := 363) (lv' := [(6, LI v63), (5, LI v60), (0, LR x0), (1, LR x1), (2, LR x2), (3, LR x3), (4, LI x4)]) X (by decide) rfl dL_law_363 ?_
      refine vv_aload_n (pc := 365) X (kf := 2) (i := 2) rfl 4 rfl dL_law_365 ?_
      refine vv_rcv (fun b69 t9 c9 fs9 e70 g9 k9 => ?_)
      cases List.mem_singleton.mp k9
      refine vv_callI (pc := 366) (rest := []) (by rw [e70]; rfl) (fun r8 k8 e8 => zz_callV X (m_X9_thrown (hlM X) _ _ _ _ e8) g9 rfl rfl q3548 q3549 q3550 q164 q3551 nh_X9 rfl (by decide) (by decide) (Nat.le_of_ble_eq_true rfl) dL_law_366) (fun v67 h68 => ?_)
      refine vv_iload (pc := 369) X 1 rfl dL_law_369 ?_
      refine vv_icmp_eq (pc := 371) (tgt := 376) X dL_law_371 rfl ?_ ?_
      · refine vv_iload (pc := 376) X 1 rfl dL_law_376 ?_
        refine vv_if_ne (pc := 378) (tgt := 393) X dL_law_378 rfl ?_ ?_
        · exact vv_sub [2, 3, 4, 5, 6] (by rfl) (B_L_law_393 X r23 hr23 _ _ _ _ _ _)
        · refine vv_aload_n (pc := 381) X (kf := 3) (i := 3) rfl 5 rfl dL_law_381 ?_
          refine vv_iconst (pc := 382) X dL_law_382 ?_
          refine vv_laload (pc := 383) X dL_law_383 (fun v71 => ?_)
          refine vv_iload (pc := 384) X 0 rfl dL_law_384 ?_
          refine vv_i2l (pc := 386) X dL_law_386 ?_
          refine vv_lcmp (pc := 387) X dL_law_387 ?_
          refine vv_if_eq (pc := 388) (tgt := 393) X dL_law_388 rfl ?_ ?_
          · exact vv_sub [2, 3, 4, 5, 6] (by rfl) (B_L_law_393 X r23 hr23 _ _ _ _ _ _)
          · refine vv_iconst (pc := 391) X dL_law_391 ?_
            exact vv_iret0 X rfl rfl dL_law_392
      · refine vv_iconst (pc := 374) X dL_law_374 ?_
        exact vv_iret0 X rfl rfl dL_law_375
    refine vv_if (fun e5 => ?_) (fun e5 => ?_)
    · refine vv_tsw (pc := 40) (off := 356) (tgt := 396) X dL_law_40 hr (by omega) (by omega) (by rw [e5]; rfl) rfl ?_
      refine vv_aload_n (pc := 396) X (kf := 1) (i := 1) rfl 1 rfl dL_law_396 ?_
      refine vv_aload_n (pc := 397) X (kf := 0) (i := 0) rfl 0 rfl dL_law_397 ?_
      refine vv_iload (pc := 398) X 4 rfl dL_law_398 ?_
      refine vv_iconst (pc := 400) X dL_law_400 ?_
      refine vv_iadd (pc := 401) X dL_law_401 ?_
      refine vv_iaload (pc := 402) X dL_law_402 (fun v72 => ?_)
      refine vv_aload_n (pc := 403) X (kf := 3) (i := 3) rfl 3 rfl dL_law_403 ?_
      refine vv_callI (pc := 404) (rest := []) (by rfl) (fun r8 k8 e8 => zz_callSX X (m_X0_textAt (hlM X) _ _ _ _ _ _ e8) q3038 q3039 q131 q3040 nh_X0 rfl (by decide) (by decide) (Nat.le_of_ble_eq_true rfl) dL_law_404) (fun v73 h74 => ?_)
      refine vv_istore (pc := 407) (lv' := [(5, LI v73), (0, LR x0), (1, LR x1), (2, LR x2), (3, LR x3), (4, LI x4)]) X (by decide) rfl dL_law_407 ?_
      refine vv_aload_n (pc := 409) X (kf := 2) (i := 2) rfl 3 rfl dL_law_409 ?_
      refine vv_aload_n (pc := 410) X (kf := 0) (i := 0) rfl 1 rfl dL_law_410 ?_
      refine vv_iload (pc := 411) X 5 rfl dL_law_411 ?_
      refine vv_iconst (pc := 413) X dL_law_413 ?_
      refine vv_iadd (pc := 414) X dL_law_414 ?_
      refine vv_iaload (pc := 415) X dL_law_415 (fun v75 => ?_)
      refine vv_rcv (fun b78 t9 c9 fs9 e79 g9 k9 => ?_)
      cases List.mem_singleton.mp k9
      refine vv_callI (pc := 416) (rest := []) (by rw [e79]; rfl) (fun r8 k8 e8 => zz_callV X (m_X9_textAt (hlM X) _ _ _ _ _ e8) g9 rfl rfl q3856 q3857 q3858 q164 q3859 nh_X9 rfl (by decide) (by decide) (Nat.le_of_ble_eq_true rfl) dL_law_416) (fun v76 h77 => ?_)
      refine vv_istore (pc := 419) (lv' := [(6, LI v76), (5, LI v73), (0, LR x0), (1, LR x1), (2, LR x2), (3, LR x3), (4, LI x4)]) X (by decide) rfl dL_law_419 ?_
      refine vv_aload_n (pc := 421) X (kf := 2) (i := 2) rfl 4 rfl dL_law_421 ?_
      refine vv_rcv (fun b82 t9 c9 fs9 e83 g9 k9 => ?_)
      cases List.mem_singleton.mp k9
      refine vv_callI (pc := 422) (rest := []) (by rw [e83]; rfl) (fun r8 k8 e8 => zz_callV X (m_X9_thrown (hlM X) _ _ _ _ e8) g9 rfl rfl q3548 q3549 q3550 q164 q3551 nh_X9 rfl (by decide) (by decide) (Nat.le_of_ble_eq_true rfl) dL_law_422) (fun v80 h81 => ?_)
      refine vv_iload (pc := 425) X 1 rfl dL_law_425 ?_
      refine vv_icmp_eq (pc := 427) (tgt := 432) X dL_law_427 rfl ?_ ?_
      · refine vv_iload (pc := 432) X 1 rfl dL_law_432 ?_
        refine vv_if_ne (pc := 434) (tgt := 449) X dL_law_434 rfl ?_ ?_
        · exact vv_sub [2, 3, 4, 5, 6] (by rfl) (B_L_law_449 X r23 hr23 _ _ _ _ _ _)
        · refine vv_aload_n (pc := 437) X (kf := 3) (i := 3) rfl 5 rfl dL_law_437 ?_
          refine vv_iconst (pc := 438) X dL_law_438 ?_
          refine vv_laload (pc := 439) X dL_law_439 (fun v84 => ?_)
          refine vv_iload (pc := 440) X 0 rfl dL_law_440 ?_
          refine vv_i2l (pc := 442) X dL_law_442 ?_
          refine vv_lcmp (pc := 443) X dL_law_443 ?_
          refine vv_if_eq (pc := 444) (tgt := 449) X dL_law_444 rfl ?_ ?_
          · exact vv_sub [2, 3, 4, 5, 6] (by rfl) (B_L_law_449 X r23 hr23 _ _ _ _ _ _)
          · refine vv_iconst (pc := 447) X dL_law_447 ?_
            exact vv_iret0 X rfl rfl dL_law_448
      · refine vv_iconst (pc := 430) X dL_law_430 ?_
        exact vv_iret0 X rfl rfl dL_law_431
    refine vv_if (fun e6 => ?_) (fun e6 => ?_)
    · refine vv_tsw (pc := 40) (off := 412) (tgt := 452) X dL_law_40 hr (by omega) (by omega) (by rw [e6]; rfl) rfl ?_
      refine vv_aload_n (pc := 452) X (kf := 1) (i := 1) rfl 1 rfl dL_law_452 ?_
      refine vv_aload_n (pc := 453) X (kf := 0) (i := 0) rfl 0 rfl dL_law_453 ?_
      refine vv_iload (pc := 454) X 4 rfl dL_law_454 ?_
      refine vv_iconst (pc := 456) X dL_law_456 ?_
      refine vv_iadd (pc := 457) X dL_law_457 ?_
      refine vv_iaload (pc := 458) X dL_law_458 (fun v85 => ?_)
      refine vv_aload_n (pc := 459) X (kf := 3) (i := 3) rfl 3 rfl dL_law_459 ?_
      refine vv_callI (pc := 460) (rest := []) (by rfl) (fun r8 k8 e8 => zz_callSX X (m_X0_back (hlM X) _ _ _ _ _ _ e8) q3074 q3075 q131 q3076 nh_X0 rfl (by decide) (by decide) (Nat.le_of_ble_eq_true rfl) dL_law_460) (fun v86 h87 => ?_)
      refine vv_istore (pc := 463) (lv' := [(5, LI v86), (0, LR x0), (1, LR x1), (2, LR x2), (3, LR x3), (4, LI x4)]) X (by decide) rfl dL_law_463 ?_
      refine vv_aload_n (pc := 465) X (kf := 2) (i := 2) rfl 3 rfl dL_law_465 ?_
      refine vv_aload_n (pc := 466) X (kf := 0) (i := 0) rfl 1 rfl dL_law_466 ?_
      refine vv_iload (pc := 467) X 5 rfl dL_law_467 ?_
      refine vv_iconst (pc := 469) X dL_law_469 ?_
      refine vv_iadd (pc := 470) X dL_law_470 ?_
      refine vv_iaload (pc := 471) X dL_law_471 (fun v88 => ?_)
      refine vv_rcv (fun b91 t9 c9 fs9 e92 g9 k9 => ?_)
      cases List.mem_singleton.mp k9
      refine vv_callI (pc := 472) (rest := []) (by rw [e92]; rfl) (fun r8 k8 e8 => zz_callV X (m_X9_back (hlM X) _ _ _ _ _ e8) g9 rfl rfl q3864 q3865 q3866 q164 q3867 nh_X9 rfl (by decide) (by decide) (Nat.le_of_ble_eq_true rfl) dL_law_472) (fun v89 h90 => ?_)
      refine vv_istore (pc := 475) (lv' := [(6, LI v89), (5, LI v86), (0, LR x0), (1, LR x1), (2, LR x2), (3, LR x3), (4, LI x4)]) X (by decide) rfl dL_law_475 ?_
      refine vv_aload_n (pc := 477) X (kf := 2) (i := 2) rfl 4 rfl dL_law_477 ?_
      refine vv_rcv (fun b95 t9 c9 fs9 e96 g9 k9 => ?_)
      cases List.mem_singleton.mp k9
      refine vv_callI (pc := 478) (rest := []) (by rw [e96]; rfl) (fun r8 k8 e8 => zz_callV X (m_X9_thrown (hlM X) _ _ _ _ e8) g9 rfl rfl q3548 q3549 q3550 q164 q3551 nh_X9 rfl (by decide) (by decide) (Nat.le_of_ble_eq_true rfl) dL_law_478) (fun v93 h94 => ?_)
      refine vv_iload (pc := 481) X 1 rfl dL_law_481 ?_
      refine vv_icmp_eq (pc := 483) (tgt := 488) X dL_law_483 rfl ?_ ?_
      · refine vv_iload (pc := 488) X 1 rfl dL_law_488 ?_
        refine vv_if_ne (pc := 490) (tgt := 505) X dL_law_490 rfl ?_ ?_
        · exact vv_sub [2, 3, 4, 5, 6] (by rfl) (B_L_law_505 X r23 hr23 _ _ _ _ _ _)
        · refine vv_aload_n (pc := 493) X (kf := 3) (i := 3) rfl 5 rfl dL_law_493 ?_
          refine vv_iconst (pc := 494) X dL_law_494 ?_
          refine vv_laload (pc := 495) X dL_law_495 (fun v97 => ?_)
          refine vv_iload (pc := 496) X 0 rfl dL_law_496 ?_
          refine vv_i2l (pc := 498) X dL_law_498 ?_
          refine vv_lcmp (pc := 499) X dL_law_499 ?_
          refine vv_if_eq (pc := 500) (tgt := 505) X dL_law_500 rfl ?_ ?_
          · exact vv_sub [2, 3, 4, 5, 6] (by rfl) (B_L_law_505 X r23 hr23 _ _ _ _ _ _)
          · refine vv_iconst (pc := 503) X dL_law_503 ?_
            exact vv_iret0 X rfl rfl dL_law_504
      · refine vv_iconst (pc := 486) X dL_law_486 ?_
        exact vv_iret0 X rfl rfl dL_law_487
    refine vv_if (fun e7 => ?_) (fun e7 => ?_)
    · refine vv_tsw (pc := 40) (off := 468) (tgt := 508) X dL_law_40 hr (by omega) (by omega) (by rw [e7]; rfl) rfl ?_
      refine vv_aload_n (pc := 508) X (kf := 1) (i := 1) rfl 1 rfl dL_law_508 ?_
      refine vv_aload_n (pc := 509) X (kf := 0) (i := 0) rfl 0 rfl dL_law_509 ?_
      refine vv_iload (pc := 510) X 4 rfl dL_law_510 ?_
      refine vv_iconst (pc := 512) X dL_law_512 ?_
      refine vv_iadd (pc := 513) X dL_law_513 ?_
      refine vv_iaload (pc := 514) X dL_law_514 (fun v98 => ?_)
      refine vv_aload_n (pc := 515) X (kf := 0) (i := 0) rfl 0 rfl dL_law_515 ?_
      refine vv_iload (pc := 516) X 4 rfl dL_law_516 ?_
      refine vv_iconst (pc := 518) X dL_law_518 ?_
      refine vv_iadd (pc := 519) X dL_law_519 ?_
      refine vv_iaload (pc := 520) X dL_law_520 (fun v99 => ?_)
      refine vv_aload_n (pc := 521) X (kf := 3) (i := 3) rfl 3 rfl dL_law_521 ?_
      refine vv_callI (pc := 522) (rest := []) (by rfl) (fun r8 k8 e8 => zz_callSX X (m_X0_backIn (hlM X) _ _ _ _ _ _ _ e8) q3081 q3082 q131 q3083 nh_X0 rfl (by decide) (by decide) (Nat.le_of_ble_eq_true rfl) dL_law_522) (fun v100 h101 => ?_)
      refine vv_istore (pc := 525) (lv' := [(5, LI v100), (0, LR x0), (1, LR x1), (2, LR x2), (3, LR x3), (4, LI x4)]) X (by decide) rfl dL_law_525 ?_
      refine vv_aload_n (pc := 527) X (kf := 2) (i := 2) rfl 3 rfl dL_law_527 ?_
      refine vv_aload_n (pc := 528) X (kf := 0) (i := 0) rfl 1 rfl dL_law_528 ?_
      refine vv_iload (pc := 529) X 5 rfl dL_law_529 ?_
      refine vv_iconst (pc := 531) X dL_law_531 ?_
      refine vv_iadd (pc := 532) X dL_law_532 ?_
      refine vv_iaload (pc := 533) X dL_law_533 (fun v102 => ?_)
      refine vv_aload_n (pc := 534) X (kf := 0) (i := 0) rfl 1 rfl dL_law_534 ?_
      refine vv_iload (pc := 535) X 5 rfl dL_law_535 ?_
      refine vv_iconst (pc := 537) X dL_law_537 ?_
      refine vv_iadd (pc := 538) X dL_law_538 ?_
      refine vv_iaload (pc := 539) X dL_law_539 (fun v103 => ?_)
      refine vv_rcv (fun b106 t9 c9 fs9 e107 g9 k9 => ?_)
      cases List.mem_singleton.mp k9
      refine vv_callI (pc := 540) (rest := []) (by rw [e107]; rfl) (fun r8 k8 e8 => zz_callV X (m_X9_backIn (hlM X) _ _ _ _ _ _ e8) g9 rfl rfl q3868 q3869 q3870 q164 q3871 nh_X9 rfl (by decide) (by decide) (Nat.le_of_ble_eq_true rfl) dL_law_540) (fun v104 h105 => ?_)
      refine vv_istore (pc := 543) (lv' := [(6, LI v104), (5, LI v100), (0, LR x0), (1, LR x1), (2, LR x2), (3, LR x3), (4, LI x4)]) X (by decide) rfl dL_law_543 ?_
      refine vv_aload_n (pc := 545) X (kf := 2) (i := 2) rfl 4 rfl dL_law_545 ?_
      refine vv_rcv (fun b110 t9 c9 fs9 e111 g9 k9 => ?_)
      cases List.mem_singleton.mp k9
      refine vv_callI (pc := 546) (rest := []) (by rw [e111]; rfl) (fun r8 k8 e8 => zz_callV X (m_X9_thrown (hlM X) _ _ _ _ e8) g9 rfl rfl q3548 q3549 q3550 q164 q3551 nh_X9 rfl (by decide) (by decide) (Nat.le_of_ble_eq_true rfl) dL_law_546) (fun v108 h109 => ?_)
      refine vv_iload (pc := 549) X 1 rfl dL_law_549 ?_
      refine vv_icmp_eq (pc := 551) (tgt := 556) X dL_law_551 rfl ?_ ?_
      · refine vv_iload (pc := 556) X 1 rfl dL_law_556 ?_
        refine vv_if_ne (pc := 558) (tgt := 573) X dL_law_558 rfl ?_ ?_
        · exact vv_sub [2, 3, 4, 5, 6] (by rfl) (B_L_law_573 X r23 hr23 _ _ _ _ _ _)
        · refine vv_aload_n (pc := 561) X (kf := 3) (i := 3) rfl 5 rfl dL_law_561 ?_
          refine vv_iconst (pc := 562) X dL_law_562 ?_
          refine vv_laload (pc := 563) X dL_law_563 (fun v112 => ?_)
          refine vv_iload (pc := 564) X 0 rfl dL_law_564 ?_
          refine vv_i2l (pc := 566) X dL_law_566 ?_
          refine vv_lcmp (pc := 567) X dL_law_567 ?_
          refine vv_if_eq (pc := 568) (tgt := 573) X dL_law_568 rfl ?_ ?_
          · exact vv_sub [2, 3, 4, 5, 6] (by rfl) (B_L_law_573 X r23 hr23 _ _ _ _ _ _)
          · refine vv_iconst (pc := 571) X dL_law_571 ?_
            exact vv_iret0 X rfl rfl dL_law_572
      · refine vv_iconst (pc := 554) X dL_law_554 ?_
        exact vv_iret0 X rfl rfl dL_law_555
    refine vv_if (fun e8 => ?_) (fun e8 => ?_)
    · refine vv_tsw (pc := 40) (off := 536) (tgt := 576) X dL_law_40 hr (by omega) (by omega) (by rw [e8]; rfl) rfl ?_
      refine vv_aload_n (pc := 576) X (kf := 1) (i := 1) rfl 1 rfl dL_law_576 ?_
      refine vv_aload_n (pc := 577) X (kf := 0) (i := 0) rfl 0 rfl dL_law_577 ?_
      refine vv_iload (pc := 578) X 4 rfl dL_law_578 ?_
      refine vv_iconst (pc := 580) X dL_law_580 ?_
      refine vv_iadd (pc := 581) X dL_law_581 ?_
      refine vv_iaload (pc := 582) X dL_law_582 (fun v113 => ?_)
      refine vv_aload_n (pc := 583) X (kf := 0) (i := 0) rfl 0 rfl dL_law_583 ?_
      refine vv_iload (pc := 584) X 4 rfl dL_law_584 ?_
      refine vv_iconst (pc := 586) X dL_law_586 ?_
      refine vv_iadd (pc := 587) X dL_law_587 ?_
      refine vv_iaload (pc := 588) X dL_law_588 (fun v114 => ?_)
      refine vv_aload_n (pc := 589) X (kf := 3) (i := 3) rfl 3 rfl dL_law_589 ?_
      refine vv_callI (pc := 590) (rest := []) (by rfl) (fun r8 k8 e8 => zz_callSX X (m_X0_pattern (hlM X) _ _ _ _ _ _ _ e8) q3095 q3096 q131 q3097 nh_X0 rfl (by decide) (by decide) (Nat.le_of_ble_eq_true rfl) dL_law_590) (fun v115 h116 => ?_)
      refine vv_istore (pc := 593) (lv' := [(5, LI v115), (0, LR x0), (1, LR x1), (2, LR x2), (3, LR x3), (4, LI x4)]) X (by decide) rfl dL_law_593 ?_
      refine vv_aload_n (pc := 595) X (kf := 2) (i := 2) rfl 3 rfl dL_law_595 ?_
      refine vv_aload_n (pc := 596) X (kf := 0) (i := 0) rfl 1 rfl dL_law_596 ?_
      refine vv_iload (pc := 597) X 5 rfl dL_law_597 ?_
      refine vv_iconst (pc := 599) X dL_law_599 ?_
      refine vv_iadd (pc := 600) X dL_law_600 ?_
      refine vv_iaload (pc := 601) X dL_law_601 (fun v117 => ?_)
      refine vv_aload_n (pc := 602) X (kf := 0) (i := 0) rfl 1 rfl dL_law_602 ?_
      refine vv_iload (pc := 603) X 5 rfl dL_law_603 ?_
      refine vv_iconst (pc := 605) X dL_law_605 ?_
      refine vv_iadd (pc := 606) X dL_law_606 ?_
      refine vv_iaload (pc := 607) X dL_law_607 (fun v118 => ?_)
      refine vv_rcv (fun b121 t9 c9 fs9 e122 g9 k9 => ?_)
      cases List.mem_singleton.mp k9
      refine vv_callI (pc := 608) (rest := []) (by rw [e122]; rfl) (fun r8 k8 e8 => zz_callV X (m_X9_pattern (hlM X) _ _ _ _ _ _ e8) g9 rfl rfl q3872 q3873 q3874 q164 q3875 nh_X9 rfl (by decide) (by decide) (Nat.le_of_ble_eq_true rfl) dL_law_608) (fun v119 h120 => ?_)
      refine vv_istore (pc := 611) (lv' := [(6, LI v119), (5, LI v115), (0, LR x0), (1, LR x1), (2, LR x2), (3, LR x3), (4, LI x4)]) X (by decide) rfl dL_law_611 ?_
      refine vv_aload_n (pc := 613) X (kf := 2) (i := 2) rfl 4 rfl dL_law_613 ?_
      refine vv_rcv (fun b125 t9 c9 fs9 e126 g9 k9 => ?_)
      cases List.mem_singleton.mp k9
      refine vv_callI (pc := 614) (rest := []) (by rw [e126]; rfl) (fun r8 k8 e8 => zz_callV X (m_X9_thrown (hlM X) _ _ _ _ e8) g9 rfl rfl q3548 q3549 q3550 q164 q3551 nh_X9 rfl (by decide) (by decide) (Nat.le_of_ble_eq_true rfl) dL_law_614) (fun v123 h124 => ?_)
      refine vv_iload (pc := 617) X 1 rfl dL_law_617 ?_
      refine vv_icmp_eq (pc := 619) (tgt := 624) X dL_law_619 rfl ?_ ?_
      · refine vv_iload (pc := 624) X 1 rfl dL_law_624 ?_
        refine vv_if_ne (pc := 626) (tgt := 641) X dL_law_626 rfl ?_ ?_
        · exact vv_sub [2, 3, 4, 5, 6] (by rfl) (B_L_law_641 X r23 hr23 _ _ _ _ _ _)
        · refine vv_aload_n (pc := 629) X (kf := 3) (i := 3) rfl 5 rfl dL_law_629 ?_
          refine vv_iconst (pc := 630) X dL_law_630 ?_
          refine vv_laload (pc := 631) X dL_law_631 (fun v127 => ?_)
          refine vv_iload (pc := 632) X 0 rfl dL_law_632 ?_
          refine vv_i2l (pc := 634) X dL_law_634 ?_
          refine vv_lcmp (pc := 635) X dL_law_635 ?_
          refine vv_if_eq (pc := 636) (tgt := 641) X dL_law_636 rfl ?_ ?_
          · exact vv_sub [2, 3, 4, 5, 6] (by rfl) (B_L_law_641 X r23 hr23 _ _ _ _ _ _)
          · refine vv_iconst (pc := 639) X dL_law_639 ?_
            exact vv_iret0 X rfl rfl dL_law_640
      · refine vv_iconst (pc := 622) X dL_law_622 ?_
        exact vv_iret0 X rfl rfl dL_law_623
    refine vv_if (fun e9 => ?_) (fun e9 => ?_)
    · refine vv_tsw (pc := 40) (off := 604) (tgt := 644) X dL_law_40 hr (by omega) (by omega) (by rw [e9]; rfl) rfl ?_
      refine vv_aload_n (pc := 644) X (kf := 1) (i := 1) rfl 1 rfl dL_law_644 ?_
      refine vv_aload_n (pc := 645) X (kf := 0) (i := 0) rfl 0 rfl dL_law_645 ?_
      refine vv_iload (pc := 646) X 4 rfl dL_law_646 ?_
      refine vv_iconst (pc := 648) X dL_law_648 ?_
      refine vv_iadd (pc := 649) X dL_law_649 ?_
      refine vv_iaload (pc := 650) X dL_law_650 (fun v128 => ?_)
      refine vv_aload_n (pc := 651) X (kf := 0) (i := 0) rfl 0 rfl dL_law_651 ?_
      refine vv_iload (pc := 652) X 4 rfl dL_law_652 ?_
      refine vv_iconst (pc := 654) X dL_law_654 ?_
      refine vv_iadd (pc := 655) X dL_law_655 ?_
      refine vv_iaload (pc := 656) X dL_law_656 (fun v129 => ?_)
      refine vv_aload_n (pc := 657) X (kf := 3) (i := 3) rfl 3 rfl dL_law_657 ?_
      refine vv_callI (pc := 658) (rest := []) (by rfl) (fun r8 k8 e8 => zz_callSX X (m_X0_patternAt (hlM X) _ _ _ _ _ _ _ e8) q3146 q3147 q131 q3148 nh_X0 rfl (by decide) (by decide) (Nat.le_of_ble_eq_true rfl) dL_law_658) (fun v130 h131 => ?_)
      refine vv_istore (pc := 661) (lv' := [(5, LI v130), (0, LR x0), (1, LR x1), (2, LR x2), (3, LR x3), (4, LI x4)]) X (by decide) rfl dL_law_661 ?_
      refine vv_aload_n (pc := 663) X (kf := 2) (i := 2) rfl 3 rfl dL_law_663 ?_
      refine vv_aload_n (pc := 664) X (kf := 0) (i := 0) rfl 1 rfl dL_law_664 ?_
      refine vv_iload (pc := 665) X 5 rfl dL_law_665 ?_
      refine vv_iconst (pc := 667) X dL_law_667 ?_
      refine vv_iadd (pc := 668) X dL_law_668 ?_
      refine vv_iaload (pc := 669) X dL_law_669 (fun v132 => ?_)
      refine vv_aload_n (pc := 670) X (kf := 0) (i := 0) rfl 1 rfl dL_law_670 ?_
      refine vv_iload (pc := 671) X 5 rfl dL_law_671 ?_
      refine vv_iconst (pc := 673) X dL_law_673 ?_
      refine vv_iadd (pc := 674) X dL_law_674 ?_
      refine vv_iaload (pc := 675) X dL_law_675 (fun v133 => ?_)
      refine vv_rcv (fun b136 t9 c9 fs9 e137 g9 k9 => ?_)
      cases List.mem_singleton.mp k9
      refine vv_callI (pc := 676) (rest := []) (by rw [e137]; rfl) (fun r8 k8 e8 => zz_callV X (m_X9_patternAt (hlM X) _ _ _ _ _ _ e8) g9 rfl rfl q3900 q3901 q3902 q164 q3903 nh_X9 rfl (by decide) (by decide) (Nat.le_of_ble_eq_true rfl) dL_law_676) (fun v134 h135 => ?_)
      refine vv_istore (pc := 679) (lv' := [(6, LI v134), (5, LI v130), (0, LR x0), (1, LR x1), (2, LR x2), (3, LR x3), (4, LI x4)]) X (by decide) rfl dL_law_679 ?_
      refine vv_aload_n (pc := 681) X (kf := 2) (i := 2) rfl 4 rfl dL_law_681 ?_
      refine vv_rcv (fun b140 t9 c9 fs9 e141 g9 k9 => ?_)
      cases List.mem_singleton.mp k9
      refine vv_callI (pc := 682) (rest := []) (by rw [e141]; rfl) (fun r8 k8 e8 => zz_callV X (m_X9_thrown (hlM X) _ _ _ _ e8) g9 rfl rfl q3548 q3549 q3550 q164 q3551 nh_X9 rfl (by decide) (by decide) (Nat.le_of_ble_eq_true rfl) dL_law_682) (fun v138 h139 => ?_)
      refine vv_iload (pc := 685) X 1 rfl dL_law_685 ?_
      refine vv_icmp_eq (pc := 687) (tgt := 692) X dL_law_687 rfl ?_ ?_
      · refine vv_iload (pc := 692) X 1 rfl dL_law_692 ?_
        refine vv_if_ne (pc := 694) (tgt := 709) X dL_law_694 rfl ?_ ?_
        · exact vv_sub [2, 3, 4, 5, 6] (by rfl) (B_L_law_709 X r23 hr23 _ _ _ _ _ _)
        · refine vv_aload_n (pc := 697) X (kf := 3) (i := 3) rfl 5 rfl dL_law_697 ?_
          refine vv_iconst (pc := 698) X dL_law_698 ?_
          refine vv_laload (pc := 699) X dL_law_699 (fun v142 => ?_)
          refine vv_iload (pc := 700) X 0 rfl dL_law_700 ?_
          refine vv_i2l (pc := 702) X dL_law_702 ?_
          refine vv_lcmp (pc := 703) X dL_law_703 ?_
          refine vv_if_eq (pc := 704) (tgt := 709) X dL_law_704 rfl ?_ ?_
          · exact vv_sub [2, 3, 4, 5, 6] (by rfl) (B_L_law_709 X r23 hr23 _ _ _ _ _ _)
          · refine vv_iconst (pc := 707) X dL_law_707 ?_
            exact vv_iret0 X rfl rfl dL_law_708
      · refine vv_iconst (pc := 690) X dL_law_690 ?_
        exact vv_iret0 X rfl rfl dL_law_691
    refine vv_if (fun e10 => ?_) (fun e10 => ?_)
    · refine vv_tsw (pc := 40) (off := 672) (tgt := 712) X dL_law_40 hr (by omega) (by omega) (by rw [e10]; rfl) rfl ?_
      refine vv_aload_n (pc := 712) X (kf := 1) (i := 1) rfl 1 rfl dL_law_712 ?_
      refine vv_aload_n (pc := 713) X (kf := 0) (i := 0) rfl 0 rfl dL_law_713 ?_
      refine vv_iload (pc := 714) X 4 rfl dL_law_714 ?_
      refine vv_iconst (pc := 716) X dL_law_716 ?_
      refine vv_iadd (pc := 717) X dL_law_717 ?_
      refine vv_iaload (pc := 718) X dL_law_718 (fun v143 => ?_)
      refine vv_aload_n (pc := 719) X (kf := 0) (i := 0) rfl 0 rfl dL_law_719 ?_
      refine vv_iload (pc := 720) X 4 rfl dL_law_720 ?_
      refine vv_iconst (pc := 722) X dL_law_722 ?_
      refine vv_iadd (pc := 723) X dL_law_723 ?_
      refine vv_iaload (pc := 724) X dL_law_724 (fun v144 => ?_)
      refine vv_aload_n (pc := 725) X (kf := 3) (i := 3) rfl 3 rfl dL_law_725 ?_
      refine vv_callI (pc := 726) (rest := []) (by rfl) (fun r8 k8 e8 => zz_callSX X (m_X0_letter (hlM X) _ _ _ _ _ _ _ e8) q3154 q3155 q131 q3156 nh_X0 rfl (by decide) (by decide) (Nat.le_of_ble_eq_true rfl) dL_law_726) (fun v145 h146 => ?_)
      refine vv_istore (pc := 729) (lv' := [(5, LI v145), (0, LR x0), (1, LR x1), (2, LR x2), (3, LR x3), (4, LI x4)]) X (by decide) rfl dL_law_729 ?_
      refine vv_aload_n (pc := 731) X (kf := 2) (i := 2) rfl 3 rfl dL_law_731 ?_
      refine vv_aload_n (pc := 732) X (kf := 0) (i := 0) rfl 1 rfl dL_law_732 ?_
      refine vv_iload (pc := 733) X 5 rfl dL_law_733 ?_
      refine vv_iconst (pc := 735) X dL_law_735 ?_
      refine vv_iadd (pc := 736) X dL_law_736 ?_
      refine vv_iaload (pc := 737) X dL_law_737 (fun v147 => ?_)
      refine vv_aload_n (pc := 738) X (kf := 0) (i := 0) rfl 1 rfl dL_law_738 ?_
      refine vv_iload (pc := 739) X 5 rfl dL_law_739 ?_
      refine vv_iconst (pc := 741) X dL_law_741 ?_
      refine vv_iadd (pc := 742) X dL_law_742 ?_
      refine vv_iaload (pc := 743) X dL_law_743 (fun v148 => ?_)
      refine vv_rcv (fun b151 t9 c9 fs9 e152 g9 k9 => ?_)
      cases List.mem_singleton.mp k9
      refine vv_callI (pc := 744) (rest := []) (by rw [e152]; rfl) (fun r8 k8 e8 => zz_callV X (m_X9_letter (hlM X) _ _ _ _ _ _ e8) g9 rfl rfl q3904 q3905 q3906 q164 q3907 nh_X9 rfl (by decide) (by decide) (Nat.le_of_ble_eq_true rfl) dL_law_744) (fun v149 h150 => ?_)
      refine vv_istore (pc := 747) (lv' := [(6, LI v149), (5, LI v145), (0, LR x0), (1, LR x1), (2, LR x2), (3, LR x3), (4, LI x4)]) X (by decide) rfl dL_law_747 ?_
      refine vv_aload_n (pc := 749) X (kf := 2) (i := 2) rfl 4 rfl dL_law_749 ?_
      refine vv_rcv (fun b155 t9 c9 fs9 e156 g9 k9 => ?_)
      cases List.mem_singleton.mp k9
      refine vv_callI (pc := 750) (rest := []) (by rw [e156]; rfl) (fun r8 k8 e8 => zz_callV X (m_X9_thrown (hlM X) _ _ _ _ e8) g9 rfl rfl q3548 q3549 q3550 q164 q3551 nh_X9 rfl (by decide) (by decide) (Nat.le_of_ble_eq_true rfl) dL_law_750) (fun v153 h154 => ?_)
      refine vv_iload (pc := 753) X 1 rfl dL_law_753 ?_
      refine vv_icmp_eq (pc := 755) (tgt := 760) X dL_law_755 rfl ?_ ?_
      · refine vv_iload (pc := 760) X 1 rfl dL_law_760 ?_
        refine vv_if_ne (pc := 762) (tgt := 777) X dL_law_762 rfl ?_ ?_
        · exact vv_sub [2, 3, 4, 5, 6] (by rfl) (B_L_law_777 X r23 hr23 _ _ _ _ _ _)
        · refine vv_aload_n (pc := 765) X (kf := 3) (i := 3) rfl 5 rfl dL_law_765 ?_
          refine vv_iconst (pc := 766) X dL_law_766 ?_
          refine vv_laload (pc := 767) X dL_law_767 (fun v157 => ?_)
          refine vv_iload (pc := 768) X 0 rfl dL_law_768 ?_
          refine vv_i2l (pc := 770) X dL_law_770 ?_
          refine vv_lcmp (pc := 771) X dL_law_771 ?_
          refine vv_if_eq (pc := 772) (tgt := 777) X dL_law_772 rfl ?_ ?_
          · exact vv_sub [2, 3, 4, 5, 6] (by rfl) (B_L_law_777 X r23 hr23 _ _ _ _ _ _)
          · refine vv_iconst (pc := 775) X dL_law_775 ?_
            exact vv_iret0 X rfl rfl dL_law_776
      · refine vv_iconst (pc := 758) X dL_law_758 ?_
        exact vv_iret0 X rfl rfl dL_law_759
    refine vv_if (fun e11 => ?_) (fun e11 => ?_)
    · refine vv_tsw (pc := 40) (off := 740) (tgt := 780) X dL_law_40 hr (by omega) (by omega) (by rw [e11]; rfl) rfl ?_
      refine vv_aload_n (pc := 780) X (kf := 1) (i := 1) rfl 1 rfl dL_law_780 ?_
      refine vv_aload_n (pc := 781) X (kf := 0) (i := 0) rfl 0 rfl dL_law_781 ?_
      refine vv_iload (pc := 782) X 4 rfl dL_law_782 ?_
      refine vv_iconst (pc := 784) X dL_law_784 ?_
      refine vv_iadd (pc := 785) X dL_law_785 ?_
      refine vv_iaload (pc := 786) X dL_law_786 (fun v158 => ?_)
      refine vv_aload_n (pc := 787) X (kf := 0) (i := 0) rfl 0 rfl dL_law_787 ?_
      refine vv_iload (pc := 788) X 4 rfl dL_law_788 ?_
      refine vv_iconst (pc := 790) X dL_law_790 ?_
      refine vv_iadd (pc := 791) X dL_law_791 ?_
      refine vv_iaload (pc := 792) X dL_law_792 (fun v159 => ?_)
      refine vv_aload_n (pc := 793) X (kf := 3) (i := 3) rfl 3 rfl dL_law_793 ?_
      refine vv_callI (pc := 794) (rest := []) (by rfl) (fun r8 k8 e8 => zz_callSX X (m_X0_border (hlM X) _ _ _ _ _ _ _ e8) q3161 q3162 q131 q3163 nh_X0 rfl (by decide) (by decide) (Nat.le_of_ble_eq_true rfl) dL_law_794) (fun v160 h161 => ?_)
      refine vv_istore (pc := 797) (lv' := [(5, LI v160), (0, LR x0), (1, LR x1), (2, LR x2), (3, LR x3), (4, LI x4)]) X (by decide) rfl dL_law_797 ?_
      refine vv_aload_n (pc := 799) X (kf := 2) (i := 2) rfl 3 rfl dL_law_799 ?_
      refine vv_aload_n (pc := 800) X (kf := 0) (i := 0) rfl 1 rfl dL_law_800 ?_
      refine vv_iload (pc := 801) X 5 rfl dL_law_801 ?_
      refine vv_iconst (pc := 803) X dL_law_803 ?_
      refine vv_iadd (pc := 804) X dL_law_804 ?_
      refine vv_iaload (pc := 805) X dL_law_805 (fun v162 => ?_)
      refine vv_aload_n (pc := 806) X (kf := 0) (i := 0) rfl 1 rfl dL_law_806 ?_
      refine vv_iload (pc := 807) X 5 rfl dL_law_807 ?_
      refine vv_iconst (pc := 809) X dL_law_809 ?_
      refine vv_iadd (pc := 810) X dL_law_810 ?_
      refine vv_iaload (pc := 811) X dL_law_811 (fun v163 => ?_)
      refine vv_rcv (fun b166 t9 c9 fs9 e167 g9 k9 => ?_)
      cases List.mem_singleton.mp k9
      refine vv_callI (pc := 812) (rest := []) (by rw [e167]; rfl) (fun r8 k8 e8 => zz_callV X (m_X9_border (hlM X) _ _ _ _ _ _ e8) g9 rfl rfl q3908 q3909 q3910 q164 q3911 nh_X9 rfl (by decide) (by decide) (Nat.le_of_ble_eq_true rfl) dL_law_812) (fun v164 h165 => ?_)
      refine vv_istore (pc := 815) (lv' := [(6, LI v164), (5, LI v160), (0, LR x0), (1, LR x1), (2, LR x2), (3, LR x3), (4, LI x4)]) X (by decide) rfl dL_law_815 ?_
      refine vv_aload_n (pc := 817) X (kf := 2) (i := 2) rfl 4 rfl dL_law_817 ?_
      refine vv_rcv (fun b170 t9 c9 fs9 e171 g9 k9 => ?_)
      cases List.mem_singleton.mp k9
      refine vv_callI (pc := 818) (rest := []) (by rw [e171]; rfl) (fun r8 k8 e8 => zz_callV X (m_X9_thrown (hlM X) _ _ _ _ e8) g9 rfl rfl q3548 q3549 q3550 q164 q3551 nh_X9 rfl (by decide) (by decide) (Nat.le_of_ble_eq_true rfl) dL_law_818) (fun v168 h169 => ?_)
      refine vv_iload (pc := 821) X 1 rfl dL_law_821 ?_
      refine vv_icmp_eq (pc := 823) (tgt := 828) X dL_law_823 rfl ?_ ?_
      · refine vv_iload (pc := 828) X 1 rfl dL_law_828 ?_
        refine vv_if_ne (pc := 830) (tgt := 845) X dL_law_830 rfl ?_ ?_
        · exact vv_sub [2, 3, 4, 5, 6] (by rfl) (B_L_law_845 X r23 hr23 _ _ _ _ _ _)
        · refine vv_aload_n (pc := 833) X (kf := 3) (i := 3) rfl 5 rfl dL_law_833 ?_
          refine vv_iconst (pc := 834) X dL_law_834 ?_
          refine vv_laload (pc := 835) X dL_law_835 (fun v172 => ?_)
          refine vv_iload (pc := 836) X 0 rfl dL_law_836 ?_
          refine vv_i2l (pc := 838) X dL_law_838 ?_
          refine vv_lcmp (pc := 839) X dL_law_839 ?_
          refine vv_if_eq (pc := 840) (tgt := 845) X dL_law_840 rfl ?_ ?_
          · exact vv_sub [2, 3, 4, 5, 6] (by rfl) (B_L_law_845 X r23 hr23 _ _ _ _ _ _)
          · refine vv_iconst (pc := 843) X dL_law_843 ?_
            exact vv_iret0 X rfl rfl dL_law_844
      · refine vv_iconst (pc := 826) X dL_law_826 ?_
        exact vv_iret0 X rfl rfl dL_law_827
    refine vv_if (fun e12 => ?_) (fun e12 => ?_)
    · refine vv_tsw (pc := 40) (off := 808) (tgt := 848) X dL_law_40 hr (by omega) (by omega) (by rw [e12]; rfl) rfl ?_
      refine vv_aload_n (pc := 848) X (kf := 1) (i := 1) rfl 1 rfl dL_law_848 ?_
      refine vv_aload_n (pc := 849) X (kf := 0) (i := 0) rfl 0 rfl dL_law_849 ?_
      refine vv_iload (pc := 850) X 4 rfl dL_law_850 ?_
      refine vv_iconst (pc := 852) X dL_law_852 ?_
      refine vv_iadd (pc := 853) X dL_law_853 ?_
      refine vv_iaload (pc := 854) X dL_law_854 (fun v173 => ?_)
      refine vv_aload_n (pc := 855) X (kf := 3) (i := 3) rfl 3 rfl dL_law_855 ?_
      refine vv_callI (pc := 856) (rest := []) (by rfl) (fun r8 k8 e8 => zz_callSX X (m_X0_markAt (hlM X) _ _ _ _ _ _ e8) q3168 q3169 q131 q3170 nh_X0 rfl (by decide) (by decide) (Nat.le_of_ble_eq_true rfl) dL_law_856) (fun v174 h175 => ?_)
      refine vv_istore (pc := 859) (lv' := [(5, LI v174), (0, LR x0), (1, LR x1), (2, LR x2), (3, LR x3), (4, LI x4)]) X (by decide) rfl dL_law_859 ?_
      refine vv_aload_n (pc := 861) X (kf := 2) (i := 2) rfl 3 rfl dL_law_861 ?_
      refine vv_aload_n (pc := 862) X (kf := 0) (i := 0) rfl 1 rfl dL_law_862 ?_
      refine vv_iload (pc := 863) X 5 rfl dL_law_863 ?_
      refine vv_iconst (pc := 865) X dL_law_865 ?_
      refine vv_iadd (pc := 866) X dL_law_866 ?_
      refine vv_iaload (pc := 867) X dL_law_867 (fun v176 => ?_)
      refine vv_rcv (fun b179 t9 c9 fs9 e180 g9 k9 => ?_)
      cases List.mem_singleton.mp k9
      refine vv_callI (pc := 868) (rest := []) (by rw [e180]; rfl) (fun r8 k8 e8 => zz_callV X (m_X9_markAt (hlM X) _ _ _ _ _ e8) g9 rfl rfl q3912 q3913 q3914 q164 q3915 nh_X9 rfl (by decide) (by decide) (Nat.le_of_ble_eq_true rfl) dL_law_868) (fun v177 h178 => ?_)
      refine vv_istore (pc := 871) (lv' := [(6, LI v177), (5, LI v174), (0, LR x0), (1, LR x1), (2, LR x2), (3, LR x3), (4, LI x4)]) X (by decide) rfl dL_law_871 ?_
      refine vv_aload_n (pc := 873) X (kf := 2) (i := 2) rfl 4 rfl dL_law_873 ?_
      refine vv_rcv (fun b183 t9 c9 fs9 e184 g9 k9 => ?_)
      cases List.mem_singleton.mp k9
      refine vv_callI (pc := 874) (rest := []) (by rw [e184]; rfl) (fun r8 k8 e8 => zz_callV X (m_X9_thrown (hlM X) _ _ _ _ e8) g9 rfl rfl q3548 q3549 q3550 q164 q3551 nh_X9 rfl (by decide) (by decide) (Nat.le_of_ble_eq_true rfl) dL_law_874) (fun v181 h182 => ?_)
      refine vv_iload (pc := 877) X 1 rfl dL_law_877 ?_
      refine vv_icmp_eq (pc := 879) (tgt := 884) X dL_law_879 rfl ?_ ?_
      · refine vv_iload (pc := 884) X 1 rfl dL_law_884 ?_
        refine vv_if_ne (pc := 886) (tgt := 901) X dL_law_886 rfl ?_ ?_
        · exact vv_sub [2, 3, 4, 5, 6] (by rfl) (B_L_law_901 X r23 hr23 _ _ _ _ _ _)
        · refine vv_aload_n (pc := 889) X (kf := 3) (i := 3) rfl 5 rfl dL_law_889 ?_
          refine vv_iconst (pc := 890) X dL_law_890 ?_
          refine vv_laload (pc := 891) X dL_law_891 (fun v185 => ?_)
          refine vv_iload (pc := 892) X 0 rfl dL_law_892 ?_
          refine vv_i2l (pc := 894) X dL_law_894 ?_
          refine vv_lcmp (pc := 895) X dL_law_895 ?_
          refine vv_if_eq (pc := 896) (tgt := 901) X dL_law_896 rfl ?_ ?_
          · exact vv_sub [2, 3, 4, 5, 6] (by rfl) (B_L_law_901 X r23 hr23 _ _ _ _ _ _)
          · refine vv_iconst (pc := 899) X dL_law_899 ?_
            exact vv_iret0 X rfl rfl dL_law_900
      · refine vv_iconst (pc := 882) X dL_law_882 ?_
        exact vv_iret0 X rfl rfl dL_law_883
    refine vv_if (fun e13 => ?_) (fun e13 => ?_)
    · refine vv_tsw (pc := 40) (off := 864) (tgt := 904) X dL_law_40 hr (by omega) (by omega) (by rw [e13]; rfl) rfl ?_
      refine vv_aload_n (pc := 904) X (kf := 1) (i := 1) rfl 1 rfl dL_law_904 ?_
      refine vv_aload_n (pc := 905) X (kf := 0) (i := 0) rfl 0 rfl dL_law_905 ?_
      refine vv_iload (pc := 906) X 4 rfl dL_law_906 ?_
      refine vv_iconst (pc := 908) X dL_law_908 ?_
      refine vv_iadd (pc := 909) X dL_law_909 ?_
      refine vv_iaload (pc := 910) X dL_law_910 (fun v186 => ?_)
      refine vv_aload_n (pc := 911) X (kf := 3) (i := 3) rfl 3 rfl dL_law_911 ?_
      refine vv_callI (pc := 912) (rest := []) (by rfl) (fun r8 k8 e8 => zz_callSX X (m_X0_account (hlM X) _ _ _ _ _ _ e8) q3185 q3186 q131 q3187 nh_X0 rfl (by decide) (by decide) (Nat.le_of_ble_eq_true rfl) dL_law_912) (fun v187 h188 => ?_)
      refine vv_istore (pc := 915) (lv' := [(5, LI v187), (0, LR x0), (1, LR x1), (2, LR x2), (3, LR x3), (4, LI x4)]) X (by decide) rfl dL_law_915 ?_
      refine vv_aload_n (pc := 917) X (kf := 2) (i := 2) rfl 3 rfl dL_law_917 ?_
      refine vv_aload_n (pc := 918) X (kf := 0) (i := 0) rfl 1 rfl dL_law_918 ?_
      refine vv_iload (pc := 919) X 5 rfl dL_law_919 ?_
      refine vv_iconst (pc := 921) X dL_law_921 ?_
      refine vv_iadd (pc := 922) X dL_law_922 ?_
      refine vv_iaload (pc := 923) X dL_law_923 (fun v189 => ?_)
      refine vv_rcv (fun b192 t9 c9 fs9 e193 g9 k9 => ?_)
      cases List.mem_singleton.mp k9
      refine vv_callI (pc := 924) (rest := []) (by rw [e193]; rfl) (fun r8 k8 e8 => zz_callV X (m_X9_account (hlM X) _ _ _ _ _ e8) g9 rfl rfl q3916 q3917 q3918 q164 q3919 nh_X9 rfl (by decide) (by decide) (Nat.le_of_ble_eq_true rfl) dL_law_924) (fun v190 h191 => ?_)
      refine vv_istore (pc := 927) (lv' := [(6, LI v190), (5, LI v187), (0, LR x0), (1, LR x1), (2, LR x2), (3, LR x3), (4, LI x4)]) X (by decide) rfl dL_law_927 ?_
      refine vv_aload_n (pc := 929) X (kf := 2) (i := 2) rfl 4 rfl dL_law_929 ?_
      refine vv_rcv (fun b196 t9 c9 fs9 e197 g9 k9 => ?_)
      cases List.mem_singleton.mp k9
      refine vv_callI (pc := 930) (rest := []) (by rw [e197]; rfl) (fun r8 k8 e8 => zz_callV X (m_X9_thrown (hlM X) _ _ _ _ e8) g9 rfl rfl q3548 q3549 q3550 q164 q3551 nh_X9 rfl (by decide) (by decide) (Nat.le_of_ble_eq_true rfl) dL_law_930) (fun v194 h195 => ?_)
      refine vv_iload (pc := 933) X 1 rfl dL_law_933 ?_
      refine vv_icmp_eq (pc := 935) (tgt := 940) X dL_law_935 rfl ?_ ?_
      · refine vv_iload (pc := 940) X 1 rfl dL_law_940 ?_
        refine vv_if_ne (pc := 942) (tgt := 957) X dL_law_942 rfl ?_ ?_
        · exact vv_sub [2, 3, 4, 5, 6] (by rfl) (B_L_law_957 X r23 hr23 _ _ _ _ _ _)
        · refine vv_aload_n (pc := 945) X (kf := 3) (i := 3) rfl 5 rfl dL_law_945 ?_
          refine vv_iconst (pc := 946) X dL_law_946 ?_
          refine vv_laload (pc := 947) X dL_law_947 (fun v198 => ?_)
          refine vv_iload (pc := 948) X 0 rfl dL_law_948 ?_
          refine vv_i2l (pc := 950) X dL_law_950 ?_
          refine vv_lcmp (pc := 951) X dL_law_951 ?_
          refine vv_if_eq (pc := 952) (tgt := 957) X dL_law_952 rfl ?_ ?_
          · exact vv_sub [2, 3, 4, 5, 6] (by rfl) (B_L_law_957 X r23 hr23 _ _ _ _ _ _)
          · refine vv_iconst (pc := 955) X dL_law_955 ?_
            exact vv_iret0 X rfl rfl dL_law_956
      · refine vv_iconst (pc := 938) X dL_law_938 ?_
        exact vv_iret0 X rfl rfl dL_law_939
    refine vv_if (fun e14 => ?_) (fun e14 => ?_)
    · refine vv_tsw (pc := 40) (off := 920) (tgt := 960) X dL_law_40 hr (by omega) (by omega) (by rw [e14]; rfl) rfl ?_
      refine vv_aload_n (pc := 960) X (kf := 1) (i := 1) rfl 1 rfl dL_law_960 ?_
      refine vv_rcv (fun b201 t9 c9 fs9 e202 g9 k9 => ?_)
      cases List.mem_singleton.mp k9
      refine vv_callI (pc := 961) (rest := []) (by rw [e202]; rfl) (fun r8 k8 e8 => zz_callV X (m_X1_gap (hlM X) _ _ _ _ e8) g9 rfl rfl q2831 q2832 q2833 q132 q2834 nh_X1 rfl (by decide) (by decide) (Nat.le_of_ble_eq_true rfl) dL_law_961) (fun v199 h200 => ?_)
      refine vv_aload_n (pc := 964) X (kf := 2) (i := 2) rfl 2 rfl dL_law_964 ?_
      refine vv_rcv (fun b205 t9 c9 fs9 e206 g9 k9 => ?_)
      cases List.mem_singleton.mp k9
      refine vv_callI (pc := 965) (rest := [LI v199]) (by rw [e206]; rfl) (fun r8 k8 e8 => zz_callV X (m_X9_gap (hlM X) _ _ _ _ e8) g9 rfl rfl q3920 q3921 q3922 q164 q3923 nh_X9 rfl (by decide) (by decide) (Nat.le_of_ble_eq_true rfl) dL_law_965) (fun v203 h204 => ?_)
      refine vv_icmp_eq (pc := 968) (tgt := 2553) X dL_law_968 rfl ?_ ?_
      · exact B_L_law_2553 X r23 hr23 _ _ _ _ _ _
      · refine vv_iconst (pc := 971) X dL_law_971 ?_
        exact vv_iret0 X rfl rfl dL_law_972
    refine vv_if (fun e15 => ?_) (fun e15 => ?_)
    · refine vv_tsw (pc := 40) (off := 933) (tgt := 973) X dL_law_40 hr (by omega) (by omega) (by rw [e15]; rfl) rfl ?_
      refine vv_aload_n (pc := 973) X (kf := 1) (i := 1) rfl 1 rfl dL_law_973 ?_
      refine vv_rcv (fun b209 t9 c9 fs9 e210 g9 k9 => ?_)
      cases List.mem_singleton.mp k9
      refine vv_callD (pc := 974) (rest := []) (by rw [e210]; rfl) (fun r8 k8 e8 => zz_callV X (m_X1_meanBack (hlM X) _ _ _ _ e8) g9 rfl rfl q2842 q2843 q2844 q132 q2845 nh_X1 rfl (by decide) (by decide) (Nat.le_of_ble_eq_true rfl) dL_law_974) (fun v207 h208 => ?_)
      refine vv_dstore (pc := 977) (lv' := [(5, LD v207), (0, LR x0), (1, LR x1), (2, LR x2), (3, LR x3), (4, LI x4)]) X (by decide) rfl dL_law_977 ?_
      refine vv_aload_n (pc := 979) X (kf := 2) (i := 2) rfl 3 rfl dL_law_979 ?_
      refine vv_rcv (fun b213 t9 c9 fs9 e214 g9 k9 => ?_)
      cases List.mem_singleton.mp k9
      refine vv_callD (pc := 980) (rest := []) (by rw [e214]; rfl) (fun r8 k8 e8 => zz_callV X (m_X9_meanBack (hlM X) _ _ _ _ e8) g9 rfl rfl q3925 q3926 q3927 q164 q3928 nh_X9 rfl (by decide) (by decide) (Nat.le_of_ble_eq_true rfl) dL_law_980) (fun v211 h212 => ?_)
      refine vv_dstore (pc := 983) (lv' := [(7, LD v211), (5, LD v207), (0, LR x0), (1, LR x1), (2, LR x2), (3, LR x3), (4, LI x4)]) X (by decide) rfl dL_law_983 ?_
      refine vv_dload (pc := 985) X 1 rfl dL_law_985 ?_
      refine vv_dload (pc := 987) X 0 rfl dL_law_987 ?_
      refine vv_dcmp (pc := 989) X dL_law_989 ?_
      refine vv_if_eq (pc := 990) (tgt := 1011) X dL_law_990 rfl ?_ ?_
      · exact vv_sub [2, 3, 4, 5, 6] (by rfl) (B_L_law_1011 X r23 hr23 _ _ _ _ _ _)
      · refine vv_dload (pc := 993) X 1 rfl dL_law_993 ?_
        refine vv_dload (pc := 995) X 1 rfl dL_law_995 ?_
        refine vv_dcmp (pc := 997) X dL_law_997 ?_
        refine vv_if_eq (pc := 998) (tgt := 1009) X dL_law_998 rfl ?_ ?_
        · exact vv_sub [] (by rfl) (B_L_law_1009 X _)
        · refine vv_dload (pc := 1001) X 0 rfl dL_law_1001 ?_
          refine vv_dload (pc := 1003) X 0 rfl dL_law_1003 ?_
          refine vv_dcmp (pc := 1005) X dL_law_1005 ?_
          refine vv_if_ne (pc := 1006) (tgt := 1011) X dL_law_1006 rfl ?_ ?_
          · exact vv_sub [2, 3, 4, 5, 6] (by rfl) (B_L_law_1011 X r23 hr23 _ _ _ _ _ _)
          · exact vv_sub [] (by rfl) (B_L_law_1009 X _)
    refine vv_if (fun e16 => ?_) (fun e16 => ?_)
    · refine vv_tsw (pc := 40) (off := 974) (tgt := 1014) X dL_law_40 hr (by omega) (by omega) (by rw [e16]; rfl) rfl ?_
      refine vv_aload_n (pc := 1014) X (kf := 1) (i := 1) rfl 1 rfl dL_law_1014 ?_
      refine vv_rcv (fun b217 t9 c9 fs9 e218 g9 k9 => ?_)
      cases List.mem_singleton.mp k9
      refine vv_callI (pc := 1015) (rest := []) (by rw [e218]; rfl) (fun r8 k8 e8 => zz_callV X (m_X1_coveredBits (hlM X) _ _ _ _ e8) g9 rfl rfl q2847 q2848 q2849 q132 q2850 nh_X1 rfl (by decide) (by decide) (Nat.le_of_ble_eq_true rfl) dL_law_1015) (fun v215 h216 => ?_)
      refine vv_aload_n (pc := 1018) X (kf := 2) (i := 2) rfl 2 rfl dL_law_1018 ?_
      refine vv_rcv (fun b221 t9 c9 fs9 e222 g9 k9 => ?_)
      cases List.mem_singleton.mp k9
      refine vv_callI (pc := 1019) (rest := [LI v215]) (by rw [e222]; rfl) (fun r8 k8 e8 => zz_callV X (m_X9_coveredBits (hlM X) _ _ _ _ e8) g9 rfl rfl q3929 q3930 q3931 q164 q3932 nh_X9 rfl (by decide) (by decide) (Nat.le_of_ble_eq_true rfl) dL_law_1019) (fun v219 h220 => ?_)
      refine vv_icmp_eq (pc := 1022) (tgt := 2553) X dL_law_1022 rfl ?_ ?_
      · exact B_L_law_2553 X r23 hr23 _ _ _ _ _ _
      · refine vv_iconst (pc := 1025) X dL_law_1025 ?_
        exact vv_iret0 X rfl rfl dL_law_1026
    refine vv_if (fun e17 => ?_) (fun e17 => ?_)
    · refine vv_tsw (pc := 40) (off := 987) (tgt := 1027) X dL_law_40 hr (by omega) (by omega) (by rw [e17]; rfl) rfl ?_
      refine vv_aload_n (pc := 1027) X (kf := 1) (i := 1) rfl 1 rfl dL_law_1027 ?_
      refine vv_aload_n (pc := 1028) X (kf := 0) (i := 0) rfl 0 rfl dL_law_1028 ?_
      refine vv_iload (pc := 1029) X 4 rfl dL_law_1029 ?_
      refine vv_iconst (pc := 1031) X dL_law_1031 ?_
      refine vv_iadd (pc := 1032) X dL_law_1032 ?_
      refine vv_iaload (pc := 1033) X dL_law_1033 (fun v223 => ?_)
      refine vv_aload_n (pc := 1034) X (kf := 0) (i := 0) rfl 0 rfl dL_law_1034 ?_
      refine vv_iload (pc := 1035) X 4 rfl dL_law_1035 ?_
      refine vv_iconst (pc := 1037) X dL_law_1037 ?_
      refine vv_iadd (pc := 1038) X dL_law_1038 ?_
      refine vv_iaload (pc := 1039) X dL_law_1039 (fun v224 => ?_)
      refine vv_aload_n (pc := 1040) X (kf := 3) (i := 3) rfl 3 rfl dL_law_1040 ?_
      refine vv_callI (pc := 1041) (rest := []) (by rfl) (fun r8 k8 e8 => zz_callSX X (m_X0_isAt (hlM X) _ _ _ _ _ _ _ e8) q3193 q3194 q131 q3195 nh_X0 rfl (by decide) (by decide) (Nat.le_of_ble_eq_true rfl) dL_law_1041) (fun v225 h226 => ?_)
      refine vv_istore (pc := 1044) (lv' := [(5, LI v225), (0, LR x0), (1, LR x1), (2, LR x2), (3, LR x3), (4, LI x4)]) X (by decide) rfl dL_law_1044 ?_
      refine vv_aload_n (pc := 1046) X (kf := 2) (i := 2) rfl 3 rfl dL_law_1046 ?_
      refine vv_aload_n (pc := 1047) X (kf := 0) (i := 0) rfl 1 rfl dL_law_1047 ?_
      refine vv_iload (pc := 1048) X 5 rfl dL_law_1048 ?_
      refine vv_iconst (pc := 1050) X dL_law_1050 ?_
      refine vv_iadd (pc := 1051) X dL_law_1051 ?_
      refine vv_iaload (pc := 1052) X dL_law_1052 (fun v227 => ?_)
      refine vv_aload_n (pc := 1053) X (kf := 0) (i := 0) rfl 1 rfl dL_law_1053 ?_
      refine vv_iload (pc := 1054) X 5 rfl dL_law_1054 ?_
      refine vv_iconst (pc := 1056) X dL_law_1056 ?_
      refine vv_iadd (pc := 1057) X dL_law_1057 ?_
      refine vv_iaload (pc := 1058) X dL_law_1058 (fun v228 => ?_)
      refine vv_rcv (fun b231 t9 c9 fs9 e232 g9 k9 => ?_)
      cases List.mem_singleton.mp k9
      refine vv_callI (pc := 1059) (rest := []) (by rw [e232]; rfl) (fun r8 k8 e8 => zz_callV X (m_X9_isAt (hlM X) _ _ _ _ _ _ e8) g9 rfl rfl q3938 q3939 q3940 q164 q3941 nh_X9 rfl (by decide) (by decide) (Nat.le_of_ble_eq_true rfl) dL_law_1059) (fun v229 h230 => ?_)
      refine vv_istore (pc := 1062) (lv' := [(6, LI v229), (5, LI v225), (0, LR x0), (1, LR x1), (2, LR x2), (3, LR x3), (4, LI x4)]) X (by decide) rfl dL_law_1062 ?_
      refine vv_aload_n (pc := 1064) X (kf := 2) (i := 2) rfl 4 rfl dL_law_1064 ?_
      refine vv_rcv (fun b235 t9 c9 fs9 e236 g9 k9 => ?_)
      cases List.mem_singleton.mp k9
      refine vv_callI (pc := 1065) (rest := []) (by rw [e236]; rfl) (fun r8 k8 e8 => zz_callV X (m_X9_thrown (hlM X) _ _ _ _ e8) g9 rfl rfl q3548 q3549 q3550 q164 q3551 nh_X9 rfl (by decide) (by decide) (Nat.le_of_ble_eq_true rfl) dL_law_1065) (fun v233 h234 => ?_)
      refine vv_iload (pc := 1068) X 1 rfl dL_law_1068 ?_
      refine vv_icmp_eq (pc := 1070) (tgt := 1075) X dL_law_1070 rfl ?_ ?_
      · refine vv_iload (pc := 1075) X 1 rfl dL_law_1075 ?_
        refine vv_if_ne (pc := 1077) (tgt := 1099) X dL_law_1077 rfl ?_ ?_
        · exact vv_sub [2, 3, 4, 5, 6] (by rfl) (B_L_law_1099 X r23 hr23 _ _ _ _ _ _)
        · refine vv_aload_n (pc := 1080) X (kf := 3) (i := 3) rfl 5 rfl dL_law_1080 ?_
          refine vv_iconst (pc := 1081) X dL_law_1081 ?_
          refine vv_laload (pc := 1082) X dL_law_1082 (fun v237 => ?_)
          refine vv_iload (pc := 1083) X 0 rfl dL_law_1083 ?_
          refine vv_if_eq (pc := 1085) (tgt := 1092) X dL_law_1085 rfl ?_ ?_
          · refine vv_lconst (pc := 1092) (v := 0) X (by decide) dL_law_1092 ?_
            exact vv_sub [2, 3, 4, 5, 6] (by rfl) (B_L_law_1093 X r23 hr23 _ _ _ _ _ _ _ _)
          · refine vv_lconst (pc := 1088) (v := 1) X (by decide) dL_law_1088 ?_
            refine vv_goto (pc := 1089) (tgt := 1093) X dL_law_1089 rfl ?_
            exact vv_sub [2, 3, 4, 5, 6] (by rfl) (B_L_law_1093 X r23 hr23 _ _ _ _ _ _ _ _)
      · refine vv_iconst (pc := 1073) X dL_law_1073 ?_
        exact vv_iret0 X rfl rfl dL_law_1074
    refine vv_if (fun e18 => ?_) (fun e18 => ?_)
    · refine vv_tsw (pc := 40) (off := 1062) (tgt := 1102) X dL_law_40 hr (by omega) (by omega) (by rw [e18]; rfl) rfl ?_
      refine vv_aload_n (pc := 1102) X (kf := 1) (i := 1) rfl 1 rfl dL_law_1102 ?_
      refine vv_aload_n (pc := 1103) X (kf := 0) (i := 0) rfl 0 rfl dL_law_1103 ?_
      refine vv_iload (pc := 1104) X 4 rfl dL_law_1104 ?_
      refine vv_iconst (pc := 1106) X dL_law_1106 ?_
      refine vv_iadd (pc := 1107) X dL_law_1107 ?_
      refine vv_iaload (pc := 1108) X dL_law_1108 (fun v238 => ?_)
      refine vv_aload_n (pc := 1109) X (kf := 0) (i := 0) rfl 0 rfl dL_law_1109 ?_
      refine vv_iload (pc := 1110) X 4 rfl dL_law_1110 ?_
      refine vv_iconst (pc := 1112) X dL_law_1112 ?_
      refine vv_iadd (pc := 1113) X dL_law_1113 ?_
      refine vv_iaload (pc := 1114) X dL_law_1114 (fun v239 => ?_)
      refine vv_aload_n (pc := 1115) X (kf := 3) (i := 3) rfl 3 rfl dL_law_1115 ?_
      refine vv_callI (pc := 1116) (rest := []) (by rfl) (fun r8 k8 e8 => zz_callSX X (m_X0_why (hlM X) _ _ _ _ _ _ _ e8) q3205 q3206 q131 q3207 nh_X0 rfl (by decide) (by decide) (Nat.le_of_ble_eq_true rfl) dL_law_1116) (fun v240 h241 => ?_)
      refine vv_istore (pc := 1119) (lv' := [(5, LI v240), (0, LR x0), (1, LR x1), (2, LR x2), (3, LR x3), (4, LI x4)]) X (by decide) rfl dL_law_1119 ?_
      refine vv_aload_n (pc := 1121) X (kf := 2) (i := 2) rfl 3 rfl dL_law_1121 ?_
      refine vv_aload_n (pc := 1122) X (kf := 0) (i := 0) rfl 1 rfl dL_law_1122 ?_
      refine vv_iload (pc := 1123) X 5 rfl dL_law_1123 ?_
      refine vv_iconst (pc := 1125) X dL_law_1125 ?_
      refine vv_iadd (pc := 1126) X dL_law_1126 ?_
      refine vv_iaload (pc := 1127) X dL_law_1127 (fun v242 => ?_)
      refine vv_aload_n (pc := 1128) X (kf := 0) (i := 0) rfl 1 rfl dL_law_1128 ?_
      refine vv_iload (pc := 1129) X 5 rfl dL_law_1129 ?_
      refine vv_iconst (pc := 1131) X dL_law_1131 ?_
      refine vv_iadd (pc := 1132) X dL_law_1132 ?_
      refine vv_iaload (pc := 1133) X dL_law_1133 (fun v243 => ?_)
      refine vv_rcv (fun b246 t9 c9 fs9 e247 g9 k9 => ?_)
      cases List.mem_singleton.mp k9
      refine vv_callI (pc := 1134) (rest := []) (by rw [e247]; rfl) (fun r8 k8 e8 => zz_callV X (m_X9_why (hlM X) _ _ _ _ _ _ e8) g9 rfl rfl q3946 q3947 q3948 q164 q3949 nh_X9 rfl (by decide) (by decide) (Nat.le_of_ble_eq_true rfl) dL_law_1134) (fun v244 h245 => ?_)
      refine vv_istore (pc := 1137) (lv' := [(6, LI v244), (5, LI v240), (0, LR x0), (1, LR x1), (2, LR x2), (3, LR x3), (4, LI x4)]) X (by decide) rfl dL_law_1137 ?_
      refine vv_aload_n (pc := 1139) X (kf := 2) (i := 2) rfl 4 rfl dL_law_1139 ?_
      refine vv_rcv (fun b250 t9 c9 fs9 e251 g9 k9 => ?_)
      cases List.mem_singleton.mp k9
      refine vv_callI (pc := 1140) (rest := []) (by rw [e251]; rfl) (fun r8 k8 e8 => zz_callV X (m_X9_thrown (hlM X) _ _ _ _ e8) g9 rfl rfl q3548 q3549 q3550 q164 q3551 nh_X9 rfl (by decide) (by decide) (Nat.le_of_ble_eq_true rfl) dL_law_1140) (fun v248 h249 => ?_)
      refine vv_iload (pc := 1143) X 1 rfl dL_law_1143 ?_
      refine vv_icmp_eq (pc := 1145) (tgt := 1150) X dL_law_1145 rfl ?_ ?_
      · refine vv_iload (pc := 1150) X 1 rfl dL_law_1150 ?_
        refine vv_if_ne (pc := 1152) (tgt := 1167) X dL_law_1152 rfl ?_ ?_
        · exact vv_sub [2, 3, 4, 5, 6] (by rfl) (B_L_law_1167 X r23 hr23 _ _ _ _ _ _)
        · refine vv_aload_n (pc := 1155) X (kf := 3) (i := 3) rfl 5 rfl dL_law_1155 ?_
          refine vv_iconst (pc := 1156) X dL_law_1156 ?_
          refine vv_laload (pc := 1157) X dL_law_1157 (fun v252 => ?_)
          refine vv_iload (pc := 1158) X 0 rfl dL_law_1158 ?_
          refine vv_i2l (pc := 1160) X dL_law_1160 ?_
          refine vv_lcmp (pc := 1161) X dL_law_1161 ?_
          refine vv_if_eq (pc := 1162) (tgt := 1167) X dL_law_1162 rfl ?_ ?_
          · exact vv_sub [2, 3, 4, 5, 6] (by rfl) (B_L_law_1167 X r23 hr23 _ _ _ _ _ _)
          · refine vv_iconst (pc := 1165) X dL_law_1165 ?_
            exact vv_iret0 X rfl rfl dL_law_1166
      · refine vv_iconst (pc := 1148) X dL_law_1148 ?_
        exact vv_iret0 X rfl rfl dL_law_1149
    refine vv_if (fun e19 => ?_) (fun e19 => ?_)
    · refine vv_tsw (pc := 40) (off := 1130) (tgt := 1170) X dL_law_40 hr (by omega) (by omega) (by rw [e19]; rfl) rfl ?_
      refine vv_aload_n (pc := 1170) X (kf := 1) (i := 1) rfl 1 rfl dL_law_1170 ?_
      refine vv_aload_n (pc := 1171) X (kf := 0) (i := 0) rfl 0 rfl dL_law_1171 ?_
      refine vv_iload (pc := 1172) X 4 rfl dL_law_1172 ?_
      refine vv_iconst (pc := 1174) X dL_law_1174 ?_
      refine vv_iadd (pc := 1175) X dL_law_1175 ?_
      refine vv_iaload (pc := 1176) X dL_law_1176 (fun v253 => ?_)
      refine vv_aload_n (pc := 1177) X (kf := 0) (i := 0) rfl 0 rfl dL_law_1177 ?_
      refine vv_iload (pc := 1178) X 4 rfl dL_law_1178 ?_
      refine vv_iconst (pc := 1180) X dL_law_1180 ?_
      refine vv_iadd (pc := 1181) X dL_law_1181 ?_
      refine vv_iaload (pc := 1182) X dL_law_1182 (fun v254 => ?_)
      refine vv_aload_n (pc := 1183) X (kf := 3) (i := 3) rfl 3 rfl dL_law_1183 ?_
      refine vv_callI (pc := 1184) (rest := []) (by rfl) (fun r8 k8 e8 => zz_callSX X (m_X0_longest (hlM X) _ _ _ _ _ _ _ e8) q3227 q3228 q131 q3229 nh_X0 rfl (by decide) (by decide) (Nat.le_of_ble_eq_true rfl) dL_law_1184) (fun v255 h256 => ?_)
      refine vv_istore (pc := 1187) (lv' := [(5, LI v255), (0, LR x0), (1, LR x1), (2, LR x2), (3, LR x3), (4, LI x4)]) X (by decide) rfl dL_law_1187 ?_
      refine vv_aload_n (pc := 1189) X (kf := 2) (i := 2) rfl 3 rfl dL_law_1189 ?_
      refine vv_aload_n (pc := 1190) X (kf := 0) (i := 0) rfl 1 rfl dL_law_1190 ?_
      refine vv_iload (pc := 1191) X 5 rfl dL_law_1191 ?_
      refine vv_iconst (pc := 1193) X dL_law_1193 ?_
      refine vv_iadd (pc := 1194) X dL_law_1194 ?_
      refine vv_iaload (pc := 1195) X dL_law_1195 (fun v257 => ?_)
      refine vv_aload_n (pc := 1196) X (kf := 0) (i := 0) rfl 1 rfl dL_law_1196 ?_
      refine vv_iload (pc := 1197) X 5 rfl dL_law_1197 ?_
      refine vv_iconst (pc := 1199) X dL_law_1199 ?_
      refine vv_iadd (pc := 1200) X dL_law_1200 ?_
      refine vv_iaload (pc := 1201) X dL_law_1201 (fun v258 => ?_)
      refine vv_rcv (fun b261 t9 c9 fs9 e262 g9 k9 => ?_)
      cases List.mem_singleton.mp k9
      refine vv_callI (pc := 1202) (rest := []) (by rw [e262]; rfl) (fun r8 k8 e8 => zz_callV X (m_X9_longest (hlM X) _ _ _ _ _ _ e8) g9 rfl rfl q3950 q3951 q3952 q164 q3953 nh_X9 rfl (by decide) (by decide) (Nat.le_of_ble_eq_true rfl) dL_law_1202) (fun v259 h260 => ?_)
      refine vv_istore (pc := 1205) (lv' := [(6, LI v259), (5, LI v255), (0, LR x0), (1, LR x1), (2, LR x2), (3, LR x3), (4, LI x4)]) X (by decide) rfl dL_law_1205 ?_
      refine vv_aload_n (pc := 1207) X (kf := 2) (i := 2) rfl 4 rfl dL_law_1207 ?_
      refine vv_rcv (fun b265 t9 c9 fs9 e266 g9 k9 => ?_)
      cases List.mem_singleton.mp k9
      refine vv_callI (pc := 1208) (rest := []) (by rw [e266]; rfl) (fun r8 k8 e8 => zz_callV X (m_X9_thrown (hlM X) _ _ _ _ e8) g9 rfl rfl q3548 q3549 q3550 q164 q3551 nh_X9 rfl (by decide) (by decide) (Nat.le_of_ble_eq_true rfl) dL_law_1208) (fun v263 h264 => ?_)
      refine vv_iload (pc := 1211) X 1 rfl dL_law_1211 ?_
      refine vv_icmp_eq (pc := 1213) (tgt := 1218) X dL_law_1213 rfl ?_ ?_
      · refine vv_iload (pc := 1218) X 1 rfl dL_law_1218 ?_
        refine vv_if_ne (pc := 1220) (tgt := 1235) X dL_law_1220 rfl ?_ ?_
        · exact vv_sub [2, 3, 4, 5, 6] (by rfl) (B_L_law_1235 X r23 hr23 _ _ _ _ _ _)
        · refine vv_aload_n (pc := 1223) X (kf := 3) (i := 3) rfl 5 rfl dL_law_1223 ?_
          refine vv_iconst (pc := 1224) X dL_law_1224 ?_
          refine vv_laload (pc := 1225) X dL_law_1225 (fun v267 => ?_)
          refine vv_iload (pc := 1226) X 0 rfl dL_law_1226 ?_
          refine vv_i2l (pc := 1228) X dL_law_1228 ?_
          refine vv_lcmp (pc := 1229) X dL_law_1229 ?_
          refine vv_if_eq (pc := 1230) (tgt := 1235) X dL_law_1230 rfl ?_ ?_
          · exact vv_sub [2, 3, 4, 5, 6] (by rfl) (B_L_law_1235 X r23 hr23 _ _ _ _ _ _)
          · refine vv_iconst (pc := 1233) X dL_law_1233 ?_
            exact vv_iret0 X rfl rfl dL_law_1234
      · refine vv_iconst (pc := 1216) X dL_law_1216 ?_
        exact vv_iret0 X rfl rfl dL_law_1217
    refine vv_if (fun e20 => ?_) (fun e20 => ?_)
    · refine vv_tsw (pc := 40) (off := 1198) (tgt := 1238) X dL_law_40 hr (by omega) (by omega) (by rw [e20]; rfl) rfl ?_
      refine vv_aload_n (pc := 1238) X (kf := 1) (i := 1) rfl 1 rfl dL_law_1238 ?_
      refine vv_aload_n (pc := 1239) X (kf := 0) (i := 0) rfl 0 rfl dL_law_1239 ?_
      refine vv_iload (pc := 1240) X 4 rfl dL_law_1240 ?_
      refine vv_iconst (pc := 1242) X dL_law_1242 ?_
      refine vv_iadd (pc := 1243) X dL_law_1243 ?_
      refine vv_iaload (pc := 1244) X dL_law_1244 (fun v268 => ?_)
      refine vv_aload_n (pc := 1245) X (kf := 0) (i := 0) rfl 0 rfl dL_law_1245 ?_
      refine vv_iload (pc := 1246) X 4 rfl dL_law_1246 ?_
      refine vv_iconst (pc := 1248) X dL_law_1248 ?_
      refine vv_iadd (pc := 1249) X dL_law_1249 ?_
      refine vv_iaload (pc := 1250) X dL_law_1250 (fun v269 => ?_)
      refine vv_aload_n (pc := 1251) X (kf := 0) (i := 0) rfl 0 rfl dL_law_1251 ?_
      refine vv_iload (pc := 1252) X 4 rfl dL_law_1252 ?_
      refine vv_iconst (pc := 1254) X dL_law_1254 ?_
      refine vv_iadd (pc := 1255) X dL_law_1255 ?_
      refine vv_iaload (pc := 1256) X dL_law_1256 (fun v270 => ?_)
      refine vv_aload_n (pc := 1257) X (kf := 3) (i := 3) rfl 3 rfl dL_law_1257 ?_
      refine vv_callI (pc := 1258) (rest := []) (by rfl) (fun r8 k8 e8 => zz_callSX X (m_X0_renamed (hlM X) _ _ _ _ _ _ _ _ e8) q3235 q3236 q131 q3237 nh_X0 rfl (by decide) (by decide) (Nat.le_of_ble_eq_true rfl) dL_law_1258) (fun v271 h272 => ?_)
      refine vv_istore (pc := 1261) (lv' := [(5, LI v271), (0, LR x0), (1, LR x1), (2, LR x2), (3, LR x3), (4, LI x4)]) X (by decide) rfl dL_law_1261 ?_
      refine vv_aload_n (pc := 1263) X (kf := 2) (i := 2) rfl 3 rfl dL_law_1263 ?_
      refine vv_aload_n (pc := 1264) X (kf := 0) (i := 0) rfl 1 rfl dL_law_1264 ?_
      refine vv_iload (pc := 1265) X 5 rfl dL_law_1265 ?_
      refine vv_iconst (pc := 1267) X dL_law_1267 ?_
      refine vv_iadd (pc := 1268) X dL_law_1268 ?_
      refine vv_iaload (pc := 1269) X dL_law_1269 (fun v273 => ?_)
      refine vv_aload_n (pc := 1270) X (kf := 0) (i := 0) rfl 1 rfl dL_law_1270 ?_
      refine vv_iload (pc := 1271) X 5 rfl dL_law_1271 ?_
      refine vv_iconst (pc := 1273) X dL_law_1273 ?_
      refine vv_iadd (pc := 1274) X dL_law_1274 ?_
      refine vv_iaload (pc := 1275) X dL_law_1275 (fun v274 => ?_)
      refine vv_aload_n (pc := 1276) X (kf := 0) (i := 0) rfl 1 rfl dL_law_1276 ?_
      refine vv_iload (pc := 1277) X 5 rfl dL_law_1277 ?_
      refine vv_iconst (pc := 1279) X dL_law_1279 ?_
      refine vv_iadd (pc := 1280) X dL_law_1280 ?_
      refine vv_iaload (pc := 1281) X dL_law_1281 (fun v275 => ?_)
      refine vv_rcv (fun b278 t9 c9 fs9 e279 g9 k9 => ?_)
      cases List.mem_singleton.mp k9
      refine vv_callI (pc := 1282) (rest := []) (by rw [e279]; rfl) (fun r8 k8 e8 => zz_callV X (m_X9_renamed (hlM X) _ _ _ _ _ _ _ e8) g9 rfl rfl q3954 q3955 q3956 q164 q3957 nh_X9 rfl (by decide) (by decide) (Nat.le_of_ble_eq_true rfl) dL_law_1282) (fun v276 h277 => ?_)
      refine vv_istore (pc := 1285) (lv' := [(6, LI v276), (5, LI v271), (0, LR x0), (1, LR x1), (2, LR x2), (3, LR x3), (4, LI x4)]) X (by decide) rfl dL_law_1285 ?_
      refine vv_aload_n (pc := 1287) X (kf := 2) (i := 2) rfl 4 rfl dL_law_1287 ?_
      refine vv_rcv (fun b282 t9 c9 fs9 e283 g9 k9 => ?_)
      cases List.mem_singleton.mp k9
      refine vv_callI (pc := 1288) (rest := []) (by rw [e283]; rfl) (fun r8 k8 e8 => zz_callV X (m_X9_thrown (hlM X) _ _ _ _ e8) g9 rfl rfl q3548 q3549 q3550 q164 q3551 nh_X9 rfl (by decide) (by decide) (Nat.le_of_ble_eq_true rfl) dL_law_1288) (fun v280 h281 => ?_)
      refine vv_iload (pc := 1291) X 1 rfl dL_law_1291 ?_
      refine vv_icmp_eq (pc := 1293) (tgt := 1298) X dL_law_1293 rfl ?_ ?_
      · refine vv_iload (pc := 1298) X 1 rfl dL_law_1298 ?_
        refine vv_if_ne (pc := 1300) (tgt := 1315) X dL_law_1300 rfl ?_ ?_
        · exact vv_sub [2, 3, 4, 5, 6] (by rfl) (B_L_law_1315 X r23 hr23 _ _ _ _ _ _)
        · refine vv_aload_n (pc := 1303) X (kf := 3) (i := 3) rfl 5 rfl dL_law_1303 ?_
          refine vv_iconst (pc := 1304) X dL_law_1304 ?_
          refine vv_laload (pc := 1305) X dL_law_1305 (fun v284 => ?_)
          refine vv_iload (pc := 1306) X 0 rfl dL_law_1306 ?_
          refine vv_i2l (pc := 1308) X dL_law_1308 ?_
          refine vv_lcmp (pc := 1309) X dL_law_1309 ?_
          refine vv_if_eq (pc := 1310) (tgt := 1315) X dL_law_1310 rfl ?_ ?_
          · exact vv_sub [2, 3, 4, 5, 6] (by rfl) (B_L_law_1315 X r23 hr23 _ _ _ _ _ _)
          · refine vv_iconst (pc := 1313) X dL_law_1313 ?_
            exact vv_iret0 X rfl rfl dL_law_1314
      · refine vv_iconst (pc := 1296) X dL_law_1296 ?_
        exact vv_iret0 X rfl rfl dL_law_1297
    refine vv_if (fun e21 => ?_) (fun e21 => ?_)
    · refine vv_tsw (pc := 40) (off := 1278) (tgt := 1318) X dL_law_40 hr (by omega) (by omega) (by rw [e21]; rfl) rfl ?_
      refine vv_aload_n (pc := 1318) X (kf := 1) (i := 1) rfl 1 rfl dL_law_1318 ?_
      refine vv_aload_n (pc := 1319) X (kf := 0) (i := 0) rfl 0 rfl dL_law_1319 ?_
      refine vv_iload (pc := 1320) X 4 rfl dL_law_1320 ?_
      refine vv_iconst (pc := 1322) X dL_law_1322 ?_
      refine vv_iadd (pc := 1323) X dL_law_1323 ?_
      refine vv_iaload (pc := 1324) X dL_law_1324 (fun v285 => ?_)
      refine vv_aload_n (pc := 1325) X (kf := 0) (i := 0) rfl 0 rfl dL_law_1325 ?_
      refine vv_iload (pc := 1326) X 4 rfl dL_law_1326 ?_
      refine vv_iconst (pc := 1328) X dL_law_1328 ?_
      refine vv_iadd (pc := 1329) X dL_law_1329 ?_
      refine vv_iaload (pc := 1330) X dL_law_1330 (fun v286 => ?_)
      refine vv_aload_n (pc := 1331) X (kf := 3) (i := 3) rfl 3 rfl dL_law_1331 ?_
      refine vv_callI (pc := 1332) (rest := []) (by rfl) (fun r8 k8 e8 => zz_callSX X (m_X0_hit (hlM X) _ _ _ _ _ _ _ e8) q3257 q3258 q131 q3259 nh_X0 rfl (by decide) (by decide) (Nat.le_of_ble_eq_true rfl) dL_law_1332) (fun v287 h288 => ?_)
      refine vv_istore (pc := 1335) (lv' := [(5, LI v287), (0, LR x0), (1, LR x1), (2, LR x2), (3, LR x3), (4, LI x4)]) X (by decide) rfl dL_law_1335 ?_
      refine vv_aload_n (pc := 1337) X (kf := 2) (i := 2) rfl 3 rfl dL_law_1337 ?_
      refine vv_aload_n (pc := 1338) X (kf := 0) (i := 0) rfl 1 rfl dL_law_1338 ?_
      refine vv_iload (pc := 1339) X 5 rfl dL_law_1339 ?_
      refine vv_iconst (pc := 1341) X dL_law_1341 ?_
      refine vv_iadd (pc := 1342) X dL_law_1342 ?_
      refine vv_iaload (pc := 1343) X dL_law_1343 (fun v289 => ?_)
      refine vv_aload_n (pc := 1344) X (kf := 0) (i := 0) rfl 1 rfl dL_law_1344 ?_
      refine vv_iload (pc := 1345) X 5 rfl dL_law_1345 ?_
      refine vv_iconst (pc := 1347) X dL_law_1347 ?_
      refine vv_iadd (pc := 1348) X dL_law_1348 ?_
      refine vv_iaload (pc := 1349) X dL_law_1349 (fun v290 => ?_)
      refine vv_rcv (fun b293 t9 c9 fs9 e294 g9 k9 => ?_)
      cases List.mem_singleton.mp k9
      refine vv_callI (pc := 1350) (rest := []) (by rw [e294]; rfl) (fun r8 k8 e8 => zz_callV X (m_X9_hit (hlM X) _ _ _ _ _ _ e8) g9 rfl rfl q3962 q3963 q3964 q164 q3965 nh_X9 rfl (by decide) (by decide) (Nat.le_of_ble_eq_true rfl) dL_law_1350) (fun v291 h292 => ?_)
      refine vv_istore (pc := 1353) (lv' := [(6, LI v291), (5, LI v287), (0, LR x0), (1, LR x1), (2, LR x2), (3, LR x3), (4, LI x4)]) X (by decide) rfl dL_law_1353 ?_
      refine vv_aload_n (pc := 1355) X (kf := 2) (i := 2) rfl 4 rfl dL_law_1355 ?_
      refine vv_rcv (fun b297 t9 c9 fs9 e298 g9 k9 => ?_)
      cases List.mem_singleton.mp k9
      refine vv_callI (pc := 1356) (rest := []) (by rw [e298]; rfl) (fun r8 k8 e8 => zz_callV X (m_X9_thrown (hlM X) _ _ _ _ e8) g9 rfl rfl q3548 q3549 q3550 q164 q3551 nh_X9 rfl (by decide) (by decide) (Nat.le_of_ble_eq_true rfl) dL_law_1356) (fun v295 h296 => ?_)
      refine vv_iload (pc := 1359) X 1 rfl dL_law_1359 ?_
      refine vv_icmp_eq (pc := 1361) (tgt := 1366) X dL_law_1361 rfl ?_ ?_
      · refine vv_iload (pc := 1366) X 1 rfl dL_law_1366 ?_
        refine vv_if_ne (pc := 1368) (tgt := 1383) X dL_law_1368 rfl ?_ ?_
        · exact vv_sub [2, 3, 4, 5, 6] (by rfl) (B_L_law_1383 X r23 hr23 _ _ _ _ _ _)
        · refine vv_aload_n (pc := 1371) X (kf := 3) (i := 3) rfl 5 rfl dL_law_1371 ?_
          refine vv_iconst (pc := 1372) X dL_law_1372 ?_
          refine vv_laload (pc := 1373) X dL_law_1373 (fun v299 => ?_)
          refine vv_iload (pc := 1374) X 0 rfl dL_law_1374 ?_
          refine vv_i2l (pc := 1376) X dL_law_1376 ?_
          refine vv_lcmp (pc := 1377) X dL_law_1377 ?_
          refine vv_if_eq (pc := 1378) (tgt := 1383) X dL_law_1378 rfl ?_ ?_
          · exact vv_sub [2, 3, 4, 5, 6] (by rfl) (B_L_law_1383 X r23 hr23 _ _ _ _ _ _)
          · refine vv_iconst (pc := 1381) X dL_law_1381 ?_
            exact vv_iret0 X rfl rfl dL_law_1382
      · refine vv_iconst (pc := 1364) X dL_law_1364 ?_
        exact vv_iret0 X rfl rfl dL_law_1365
    refine vv_if (fun e22 => ?_) (fun e22 => ?_)
    · refine vv_tsw (pc := 40) (off := 1346) (tgt := 1386) X dL_law_40 hr (by omega) (by omega) (by rw [e22]; rfl) rfl ?_
      refine vv_aload_n (pc := 1386) X (kf := 1) (i := 1) rfl 1 rfl dL_law_1386 ?_
      refine vv_aload_n (pc := 1387) X (kf := 0) (i := 0) rfl 0 rfl dL_law_1387 ?_
      refine vv_iload (pc := 1388) X 4 rfl dL_law_1388 ?_
      refine vv_iconst (pc := 1390) X dL_law_1390 ?_
      refine vv_iadd (pc := 1391) X dL_law_1391 ?_
      refine vv_iaload (pc := 1392) X dL_law_1392 (fun v300 => ?_)
      refine vv_aload_n (pc := 1393) X (kf := 0) (i := 0) rfl 0 rfl dL_law_1393 ?_
      refine vv_iload (pc := 1394) X 4 rfl dL_law_1394 ?_
      refine vv_iconst (pc := 1396) X dL_law_1396 ?_
      refine vv_iadd (pc := 1397) X dL_law_1397 ?_
      refine vv_iaload (pc := 1398) X dL_law_1398 (fun v301 => ?_)
      refine vv_aload_n (pc := 1399) X (kf := 3) (i := 3) rfl 3 rfl dL_law_1399 ?_
      refine vv_callI (pc := 1400) (rest := []) (by rfl) (fun r8 k8 e8 => zz_callSX X (m_X0_candidate (hlM X) _ _ _ _ _ _ _ e8) q3268 q3269 q131 q3270 nh_X0 rfl (by decide) (by decide) (Nat.le_of_ble_eq_true rfl) dL_law_1400) (fun v302 h303 => ?_)
      refine vv_istore (pc := 1403) (lv' := [(5, LI v302), (0, LR x0), (1, LR x1), (2, LR x2), (3, LR x3), (4, LI x4)]) X (by decide) rfl dL_law_1403 ?_
      refine vv_aload_n (pc := 1405) X (kf := 2) (i := 2) rfl 3 rfl dL_law_1405 ?_
      refine vv_aload_n (pc := 1406) X (kf := 0) (i := 0) rfl 1 rfl dL_law_1406 ?_
      refine vv_iload (pc := 1407) X 5 rfl dL_law_1407 ?_
      refine vv_iconst (pc := 1409) X dL_law_1409 ?_
      refine vv_iadd (pc := 1410) X dL_law_1410 ?_
      refine vv_iaload (pc := 1411) X dL_law_1411 (fun v304 => ?_)
      refine vv_aload_n (pc := 1412) X (kf := 0) (i := 0) rfl 1 rfl dL_law_1412 ?_
      refine vv_iload (pc := 1413) X 5 rfl dL_law_1413 ?_
      refine vv_iconst (pc := 1415) X dL_law_1415 ?_
      refine vv_iadd (pc := 1416) X dL_law_1416 ?_
      refine vv_iaload (pc := 1417) X dL_law_1417 (fun v305 => ?_)
      refine vv_rcv (fun b308 t9 c9 fs9 e309 g9 k9 => ?_)
      cases List.mem_singleton.mp k9
      refine vv_callI (pc := 1418) (rest := []) (by rw [e309]; rfl) (fun r8 k8 e8 => zz_callV X (m_X9_candidate (hlM X) _ _ _ _ _ _ e8) g9 rfl rfl q3970 q3971 q3972 q164 q3973 nh_X9 rfl (by decide) (by decide) (Nat.le_of_ble_eq_true rfl) dL_law_1418) (fun v306 h307 => ?_)
      refine vv_istore (pc := 1421) (lv' := [(6, LI v306), (5, LI v302), (0, LR x0), (1, LR x1), (2, LR x2), (3, LR x3), (4, LI x4)]) X (by decide) rfl dL_law_1421 ?_
      refine vv_aload_n (pc := 1423) X (kf := 2) (i := 2) rfl 4 rfl dL_law_1423 ?_
      refine vv_rcv (fun b312 t9 c9 fs9 e313 g9 k9 => ?_)
      cases List.mem_singleton.mp k9
      refine vv_callI (pc := 1424) (rest := []) (by rw [e313]; rfl) (fun r8 k8 e8 => zz_callV X (m_X9_thrown (hlM X) _ _ _ _ e8) g9 rfl rfl q3548 q3549 q3550 q164 q3551 nh_X9 rfl (by decide) (by decide) (Nat.le_of_ble_eq_true rfl) dL_law_1424) (fun v310 h311 => ?_)
      refine vv_iload (pc := 1427) X 1 rfl dL_law_1427 ?_
      refine vv_icmp_eq (pc := 1429) (tgt := 1434) X dL_law_1429 rfl ?_ ?_
      · refine vv_iload (pc := 1434) X 1 rfl dL_law_1434 ?_
        refine vv_if_ne (pc := 1436) (tgt := 1451) X dL_law_1436 rfl ?_ ?_
        · exact vv_sub [2, 3, 4, 5, 6] (by rfl) (B_L_law_1451 X r23 hr23 _ _ _ _ _ _)
        · refine vv_aload_n (pc := 1439) X (kf := 3) (i := 3) rfl 5 rfl dL_law_1439 ?_
          refine vv_iconst (pc := 1440) X dL_law_1440 ?_
          refine vv_laload (pc := 1441) X dL_law_1441 (fun v314 => ?_)
          refine vv_iload (pc := 1442) X 0 rfl dL_law_1442 ?_
          refine vv_i2l (pc := 1444) X dL_law_1444 ?_
          refine vv_lcmp (pc := 1445) X dL_law_1445 ?_
          refine vv_if_eq (pc := 1446) (tgt := 1451) X dL_law_1446 rfl ?_ ?_
          · exact vv_sub [2, 3, 4, 5, 6] (by rfl) (B_L_law_1451 X r23 hr23 _ _ _ _ _ _)
          · refine vv_iconst (pc := 1449) X dL_law_1449 ?_
            exact vv_iret0 X rfl rfl dL_law_1450
      · refine vv_iconst (pc := 1432) X dL_law_1432 ?_
        exact vv_iret0 X rfl rfl dL_law_1433
    refine vv_if (fun e23 => ?_) (fun e23 => ?_)
    · refine vv_tsw (pc := 40) (off := 1414) (tgt := 1454) X dL_law_40 hr (by omega) (by omega) (by rw [e23]; rfl) rfl ?_
      refine vv_aload_n (pc := 1454) X (kf := 1) (i := 1) rfl 1 rfl dL_law_1454 ?_
      refine vv_aload_n (pc := 1455) X (kf := 0) (i := 0) rfl 0 rfl dL_law_1455 ?_
      refine vv_iload (pc := 1456) X 4 rfl dL_law_1456 ?_
      refine vv_iconst (pc := 1458) X dL_law_1458 ?_
      refine vv_iadd (pc := 1459) X dL_law_1459 ?_
      refine vv_iaload (pc := 1460) X dL_law_1460 (fun v315 => ?_)
      refine vv_aload_n (pc := 1461) X (kf := 0) (i := 0) rfl 0 rfl dL_law_1461 ?_
      refine vv_iload (pc := 1462) X 4 rfl dL_law_1462 ?_
      refine vv_iconst (pc := 1464) X dL_law_1464 ?_
      refine vv_iadd (pc := 1465) X dL_law_1465 ?_
      refine vv_iaload (pc := 1466) X dL_law_1466 (fun v316 => ?_)
      refine vv_aload_n (pc := 1467) X (kf := 0) (i := 0) rfl 0 rfl dL_law_1467 ?_
      refine vv_iload (pc := 1468) X 4 rfl dL_law_1468 ?_
      refine vv_iconst (pc := 1470) X dL_law_1470 ?_
      refine vv_iadd (pc := 1471) X dL_law_1471 ?_
      refine vv_iaload (pc := 1472) X dL_law_1472 (fun v317 => ?_)
      refine vv_aload_n (pc := 1473) X (kf := 3) (i := 3) rfl 3 rfl dL_law_1473 ?_
      refine vv_callI (pc := 1474) (rest := []) (by rfl) (fun r8 k8 e8 => zz_callSX X (m_X0_alike (hlM X) _ _ _ _ _ _ _ _ e8) q3280 q3281 q131 q3282 nh_X0 rfl (by decide) (by decide) (Nat.le_of_ble_eq_true rfl) dL_law_1474) (fun v318 h319 => ?_)
      refine vv_istore (pc := 1477) (lv' := [(5, LI v318), (0, LR x0), (1, LR x1), (2, LR x2), (3, LR x3), (4, LI x4)]) X (by decide) rfl dL_law_1477 ?_
      refine vv_aload_n (pc := 1479) X (kf := 2) (i := 2) rfl 3 rfl dL_law_1479 ?_
      refine vv_aload_n (pc := 1480) X (kf := 0) (i := 0) rfl 1 rfl dL_law_1480 ?_
      refine vv_iload (pc := 1481) X 5 rfl dL_law_1481 ?_
      refine vv_iconst (pc := 1483) X dL_law_1483 ?_
      refine vv_iadd (pc := 1484) X dL_law_1484 ?_
      refine vv_iaload (pc := 1485) X dL_law_1485 (fun v320 => ?_)
      refine vv_aload_n (pc := 1486) X (kf := 0) (i := 0) rfl 1 rfl dL_law_1486 ?_
      refine vv_iload (pc := 1487) X 5 rfl dL_law_1487 ?_
      refine vv_iconst (pc := 1489) X dL_law_1489 ?_
      refine vv_iadd (pc := 1490) X dL_law_1490 ?_
      refine vv_iaload (pc := 1491) X dL_law_1491 (fun v321 => ?_)
      refine vv_aload_n (pc := 1492) X (kf := 0) (i := 0) rfl 1 rfl dL_law_1492 ?_
      refine vv_iload (pc := 1493) X 5 rfl dL_law_1493 ?_
      refine vv_iconst (pc := 1495) X dL_law_1495 ?_
      refine vv_iadd (pc := 1496) X dL_law_1496 ?_
      refine vv_iaload (pc := 1497) X dL_law_1497 (fun v322 => ?_)
      refine vv_rcv (fun b325 t9 c9 fs9 e326 g9 k9 => ?_)
      cases List.mem_singleton.mp k9
      refine vv_callI (pc := 1498) (rest := []) (by rw [e326]; rfl) (fun r8 k8 e8 => zz_callV X (m_X9_alike (hlM X) _ _ _ _ _ _ _ e8) g9 rfl rfl q3974 q3975 q3976 q164 q3977 nh_X9 rfl (by decide) (by decide) (Nat.le_of_ble_eq_true rfl) dL_law_1498) (fun v323 h324 => ?_)
      refine vv_istore (pc := 1501) (lv' := [(6, LI v323), (5, LI v318), (0, LR x0), (1, LR x1), (2, LR x2), (3, LR x3), (4, LI x4)]) X (by decide) rfl dL_law_1501 ?_
      refine vv_aload_n (pc := 1503) X (kf := 2) (i := 2) rfl 4 rfl dL_law_1503 ?_
      refine vv_rcv (fun b329 t9 c9 fs9 e330 g9 k9 => ?_)
      cases List.mem_singleton.mp k9
      refine vv_callI (pc := 1504) (rest := []) (by rw [e330]; rfl) (fun r8 k8 e8 => zz_callV X (m_X9_thrown (hlM X) _ _ _ _ e8) g9 rfl rfl q3548 q3549 q3550 q164 q3551 nh_X9 rfl (by decide) (by decide) (Nat.le_of_ble_eq_true rfl) dL_law_1504) (fun v327 h328 => ?_)
      refine vv_iload (pc := 1507) X 1 rfl dL_law_1507 ?_
      refine vv_icmp_eq (pc := 1509) (tgt := 1514) X dL_law_1509 rfl ?_ ?_
      · refine vv_iload (pc := 1514) X 1 rfl dL_law_1514 ?_
        refine vv_if_ne (pc := 1516) (tgt := 1538) X dL_law_1516 rfl ?_ ?_
        · exact vv_sub [2, 3, 4, 5, 6] (by rfl) (B_L_law_1538 X r23 hr23 _ _ _ _ _ _)
        · refine vv_aload_n (pc := 1519) X (kf := 3) (i := 3) rfl 5 rfl dL_law_1519 ?_
          refine vv_iconst (pc := 1520) X dL_law_1520 ?_
          refine vv_laload (pc := 1521) X dL_law_1521 (fun v331 => ?_)
          refine vv_iload (pc := 1522) X 0 rfl dL_law_1522 ?_
          refine vv_if_eq (pc := 1524) (tgt := 1531) X dL_law_1524 rfl ?_ ?_
          · refine vv_lconst (pc := 1531) (v := 0) X (by decide) dL_law_1531 ?_
            exact vv_sub [2, 3, 4, 5, 6] (by rfl) (B_L_law_1532 X r23 hr23 _ _ _ _ _ _ _ _)
          · refine vv_lconst (pc := 1527) (v := 1) X (by decide) dL_law_1527 ?_
            refine vv_goto (pc := 1528) (tgt := 1532) X dL_law_1528 rfl ?_
            exact vv_sub [2, 3, 4, 5, 6] (by rfl) (B_L_law_1532 X r23 hr23 _ _ _ _ _ _ _ _)
      · refine vv_iconst (pc := 1512) X dL_law_1512 ?_
        exact vv_iret0 X rfl rfl dL_law_1513
    refine vv_if (fun e24 => ?_) (fun e24 => ?_)
    · refine vv_tsw (pc := 40) (off := 1501) (tgt := 1541) X dL_law_40 hr (by omega) (by omega) (by rw [e24]; rfl) rfl ?_
      refine vv_aload_n (pc := 1541) X (kf := 1) (i := 1) rfl 1 rfl dL_law_1541 ?_
      refine vv_aload_n (pc := 1542) X (kf := 0) (i := 0) rfl 0 rfl dL_law_1542 ?_
      refine vv_iload (pc := 1543) X 4 rfl dL_law_1543 ?_
      refine vv_iconst (pc := 1545) X dL_law_1545 ?_
      refine vv_iadd (pc := 1546) X dL_law_1546 ?_
      refine vv_iaload (pc := 1547) X dL_law_1547 (fun v332 => ?_)
      refine vv_aload_n (pc := 1548) X (kf := 3) (i := 3) rfl 3 rfl dL_law_1548 ?_
      refine vv_callI (pc := 1549) (rest := []) (by rfl) (fun r8 k8 e8 => zz_callSX X (m_X0_classes (hlM X) _ _ _ _ _ _ e8) q3291 q3292 q131 q3293 nh_X0 rfl (by decide) (by decide) (Nat.le_of_ble_eq_true rfl) dL_law_1549) (fun v333 h334 => ?_)
      refine vv_istore (pc := 1552) (lv' := [(5, LI v333), (0, LR x0), (1, LR x1), (2, LR x2), (3, LR x3), (4, LI x4)]) X (by decide) rfl dL_law_1552 ?_
      refine vv_aload_n (pc := 1554) X (kf := 2) (i := 2) rfl 3 rfl dL_law_1554 ?_
      refine vv_aload_n (pc := 1555) X (kf := 0) (i := 0) rfl 1 rfl dL_law_1555 ?_
      refine vv_iload (pc := 1556) X 5 rfl dL_law_1556 ?_
      refine vv_iconst (pc := 1558) X dL_law_1558 ?_
      refine vv_iadd (pc := 1559) X dL_law_1559 ?_
      refine vv_iaload (pc := 1560) X dL_law_1560 (fun v335 => ?_)
      refine vv_rcv (fun b338 t9 c9 fs9 e339 g9 k9 => ?_)
      cases List.mem_singleton.mp k9
      refine vv_callI (pc := 1561) (rest := []) (by rw [e339]; rfl) (fun r8 k8 e8 => zz_callV X (m_X9_classes (hlM X) _ _ _ _ _ e8) g9 rfl rfl q3979 q3980 q3981 q164 q3982 nh_X9 rfl (by decide) (by decide) (Nat.le_of_ble_eq_true rfl) dL_law_1561) (fun v336 h337 => ?_)
      refine vv_istore (pc := 1564) (lv' := [(6, LI v336), (5, LI v333), (0, LR x0), (1, LR x1), (2, LR x2), (3, LR x3), (4, LI x4)]) X (by decide) rfl dL_law_1564 ?_
      refine vv_aload_n (pc := 1566) X (kf := 2) (i := 2) rfl 4 rfl dL_law_1566 ?_
      refine vv_rcv (fun b342 t9 c9 fs9 e343 g9 k9 => ?_)
      cases List.mem_singleton.mp k9
      refine vv_callI (pc := 1567) (rest := []) (by rw [e343]; rfl) (fun r8 k8 e8 => zz_callV X (m_X9_thrown (hlM X) _ _ _ _ e8) g9 rfl rfl q3548 q3549 q3550 q164 q3551 nh_X9 rfl (by decide) (by decide) (Nat.le_of_ble_eq_true rfl) dL_law_1567) (fun v340 h341 => ?_)
      refine vv_iload (pc := 1570) X 1 rfl dL_law_1570 ?_
      refine vv_icmp_eq (pc := 1572) (tgt := 1577) X dL_law_1572 rfl ?_ ?_
      · refine vv_iload (pc := 1577) X 1 rfl dL_law_1577 ?_
        refine vv_if_ne (pc := 1579) (tgt := 1594) X dL_law_1579 rfl ?_ ?_
        · exact vv_sub [2, 3, 4, 5, 6] (by rfl) (B_L_law_1594 X r23 hr23 _ _ _ _ _ _)
        · refine vv_aload_n (pc := 1582) X (kf := 3) (i := 3) rfl 5 rfl dL_law_1582 ?_
          refine vv_iconst (pc := 1583) X dL_law_1583 ?_
          refine vv_laload (pc := 1584) X dL_law_1584 (fun v344 => ?_)
          refine vv_iload (pc := 1585) X 0 rfl dL_law_1585 ?_
          refine vv_i2l (pc := 1587) X dL_law_1587 ?_
          refine vv_lcmp (pc := 1588) X dL_law_1588 ?_
          refine vv_if_eq (pc := 1589) (tgt := 1594) X dL_law_1589 rfl ?_ ?_
          · exact vv_sub [2, 3, 4, 5, 6] (by rfl) (B_L_law_1594 X r23 hr23 _ _ _ _ _ _)
          · refine vv_iconst (pc := 1592) X dL_law_1592 ?_
            exact vv_iret0 X rfl rfl dL_law_1593
      · refine vv_iconst (pc := 1575) X dL_law_1575 ?_
        exact vv_iret0 X rfl rfl dL_law_1576
    refine vv_if (fun e25 => ?_) (fun e25 => ?_)
    · refine vv_tsw (pc := 40) (off := 1557) (tgt := 1597) X dL_law_40 hr (by omega) (by omega) (by rw [e25]; rfl) rfl ?_
      refine vv_aload_n (pc := 1597) X (kf := 1) (i := 1) rfl 1 rfl dL_law_1597 ?_
      refine vv_rcv (fun b347 t9 c9 fs9 e348 g9 k9 => ?_)
      cases List.mem_singleton.mp k9
      refine vv_callI (pc := 1598) (rest := []) (by rw [e348]; rfl) (fun r8 k8 e8 => zz_callV X (m_X1_longestTwin (hlM X) _ _ _ _ e8) g9 rfl rfl q2944 q2945 q2946 q132 q2947 nh_X1 rfl (by decide) (by decide) (Nat.le_of_ble_eq_true rfl) dL_law_1598) (fun v345 h346 => ?_)
      refine vv_aload_n (pc := 1601) X (kf := 2) (i := 2) rfl 2 rfl dL_law_1601 ?_
      refine vv_rcv (fun b351 t9 c9 fs9 e352 g9 k9 => ?_)
      cases List.mem_singleton.mp k9
      refine vv_callI (pc := 1602) (rest := [LI v345]) (by rw [e352]; rfl) (fun r8 k8 e8 => zz_callV X (m_X9_longestTwin (hlM X) _ _ _ _ e8) g9 rfl rfl q3987 q3988 q3989 q164 q3990 nh_X9 rfl (by decide) (by decide) (Nat.le_of_ble_eq_true rfl) dL_law_1602) (fun v349 h350 => ?_)
      refine vv_icmp_eq (pc := 1605) (tgt := 2553) X dL_law_1605 rfl ?_ ?_
      · exact B_L_law_2553 X r23 hr23 _ _ _ _ _ _
      · refine vv_iconst (pc := 1608) X dL_law_1608 ?_
        exact vv_iret0 X rfl rfl dL_law_1609
    refine vv_if (fun e26 => ?_) (fun e26 => ?_)
    · refine vv_tsw (pc := 40) (off := 1570) (tgt := 1610) X dL_law_40 hr (by omega) (by omega) (by rw [e26]; rfl) rfl ?_
      refine vv_aload_n (pc := 1610) X (kf := 1) (i := 1) rfl 1 rfl dL_law_1610 ?_
      refine vv_aload_n (pc := 1611) X (kf := 0) (i := 0) rfl 0 rfl dL_law_1611 ?_
      refine vv_iload (pc := 1612) X 4 rfl dL_law_1612 ?_
      refine vv_iconst (pc := 1614) X dL_law_1614 ?_
      refine vv_iadd (pc := 1615) X dL_law_1615 ?_
      refine vv_iaload (pc := 1616) X dL_law_1616 (fun v353 => ?_)
      refine vv_aload_n (pc := 1617) X (kf := 0) (i := 0) rfl 0 rfl dL_law_1617 ?_
      refine vv_iload (pc := 1618) X 4 rfl dL_law_1618 ?_
      refine vv_iconst (pc := 1620) X dL_law_1620 ?_
      refine vv_iadd (pc := 1621) X dL_law_1621 ?_
      refine vv_iaload (pc := 1622) X dL_law_1622 (fun v354 => ?_)
      refine vv_aload_n (pc := 1623) X (kf := 0) (i := 0) rfl 0 rfl dL_law_1623 ?_
      refine vv_iload (pc := 1624) X 4 rfl dL_law_1624 ?_
      refine vv_iconst (pc := 1626) X dL_law_1626 ?_
      refine vv_iadd (pc := 1627) X dL_law_1627 ?_
      refine vv_iaload (pc := 1628) X dL_law_1628 (fun v355 => ?_)
      refine vv_aload_n (pc := 1629) X (kf := 3) (i := 3) rfl 3 rfl dL_law_1629 ?_
      refine vv_callI (pc := 1630) (rest := []) (by rfl) (fun r8 k8 e8 => zz_callSX X (m_X0_hitsIf (hlM X) _ _ _ _ _ _ _ _ e8) q3303 q3304 q131 q3305 nh_X0 rfl (by decide) (by decide) (Nat.le_of_ble_eq_true rfl) dL_law_1630) (fun v356 h357 => ?_)
      refine vv_istore (pc := 1633) (lv' := [(5, LI v356), (0, LR x0), (1, LR x1), (2, LR x2), (3, LR x3), (4, LI x4)]) X (by decide) rfl dL_law_1633 ?_
      refine vv_aload_n (pc := 1635) X (kf := 2) (i := 2) rfl 3 rfl dL_law_1635 ?_
      refine vv_aload_n (pc := 1636) X (kf := 0) (i := 0) rfl 1 rfl dL_law_1636 ?_
      refine vv_iload (pc := 1637) X 5 rfl dL_law_1637 ?_
      refine vv_iconst (pc := 1639) X dL_law_1639 ?_
      refine vv_iadd (pc := 1640) X dL_law_1640 ?_
      refine vv_iaload (pc := 1641) X dL_law_1641 (fun v358 => ?_)
      refine vv_aload_n (pc := 1642) X (kf := 0) (i := 0) rfl 1 rfl dL_law_1642 ?_
      refine vv_iload (pc := 1643) X 5 rfl dL_law_1643 ?_
      refine vv_iconst (pc := 1645) X dL_law_1645 ?_
      refine vv_iadd (pc := 1646) X dL_law_1646 ?_
      refine vv_iaload (pc := 1647) X dL_law_1647 (fun v359 => ?_)
      refine vv_aload_n (pc := 1648) X (kf := 0) (i := 0) rfl 1 rfl dL_law_1648 ?_
      refine vv_iload (pc := 1649) X 5 rfl dL_law_1649 ?_
      refine vv_iconst (pc := 1651) X dL_law_1651 ?_
      refine vv_iadd (pc := 1652) X dL_law_1652 ?_
      refine vv_iaload (pc := 1653) X dL_law_1653 (fun v360 => ?_)
      refine vv_rcv (fun b363 t9 c9 fs9 e364 g9 k9 => ?_)
      cases List.mem_singleton.mp k9
      refine vv_callI (pc := 1654) (rest := []) (by rw [e364]; rfl) (fun r8 k8 e8 => zz_callV X (m_X9_hitsIf (hlM X) _ _ _ _ _ _ _ e8) g9 rfl rfl q3991 q3992 q3993 q164 q3994 nh_X9 rfl (by decide) (by decide) (Nat.le_of_ble_eq_true rfl) dL_law_1654) (fun v361 h362 => ?_)
      refine vv_istore (pc := 1657) (lv' := [(6, LI v361), (5, LI v356), (0, LR x0), (1, LR x1), (2, LR x2), (3, LR x3), (4, LI x4)]) X (by decide) rfl dL_law_1657 ?_
      refine vv_aload_n (pc := 1659) X (kf := 2) (i := 2) rfl 4 rfl dL_law_1659 ?_
      refine vv_rcv (fun b367 t9 c9 fs9 e368 g9 k9 => ?_)
      cases List.mem_singleton.mp k9
      refine vv_callI (pc := 1660) (rest := []) (by rw [e368]; rfl) (fun r8 k8 e8 => zz_callV X (m_X9_thrown (hlM X) _ _ _ _ e8) g9 rfl rfl q3548 q3549 q3550 q164 q3551 nh_X9 rfl (by decide) (by decide) (Nat.le_of_ble_eq_true rfl) dL_law_1660) (fun v365 h366 => ?_)
      refine vv_iload (pc := 1663) X 1 rfl dL_law_1663 ?_
      refine vv_icmp_eq (pc := 1665) (tgt := 1670) X dL_law_1665 rfl ?_ ?_
      · refine vv_iload (pc := 1670) X 1 rfl dL_law_1670 ?_
        refine vv_if_ne (pc := 1672) (tgt := 1687) X dL_law_1672 rfl ?_ ?_
        · exact vv_sub [2, 3, 4, 5, 6] (by rfl) (B_L_law_1687 X r23 hr23 _ _ _ _ _ _)
        · refine vv_aload_n (pc := 1675) X (kf := 3) (i := 3) rfl 5 rfl dL_law_1675 ?_
          refine vv_iconst (pc := 1676) X dL_law_1676 ?_
          refine vv_laload (pc := 1677) X dL_law_1677 (fun v369 => ?_)
          refine vv_iload (pc := 1678) X 0 rfl dL_law_1678 ?_
          refine vv_i2l (pc := 1680) X dL_law_1680 ?_
          refine vv_lcmp (pc := 1681) X dL_law_1681 ?_
          refine vv_if_eq (pc := 1682) (tgt := 1687) X dL_law_1682 rfl ?_ ?_
          · exact vv_sub [2, 3, 4, 5, 6] (by rfl) (B_L_law_1687 X r23 hr23 _ _ _ _ _ _)
          · refine vv_iconst (pc := 1685) X dL_law_1685 ?_
            exact vv_iret0 X rfl rfl dL_law_1686
      · refine vv_iconst (pc := 1668) X dL_law_1668 ?_
        exact vv_iret0 X rfl rfl dL_law_1669
    refine vv_if (fun e27 => ?_) (fun e27 => ?_)
    · refine vv_tsw (pc := 40) (off := 1650) (tgt := 1690) X dL_law_40 hr (by omega) (by omega) (by rw [e27]; rfl) rfl ?_
      refine vv_aload_n (pc := 1690) X (kf := 1) (i := 1) rfl 1 rfl dL_law_1690 ?_
      refine vv_aload_n (pc := 1691) X (kf := 0) (i := 0) rfl 0 rfl dL_law_1691 ?_
      refine vv_iload (pc := 1692) X 4 rfl dL_law_1692 ?_
      refine vv_iconst (pc := 1694) X dL_law_1694 ?_
      refine vv_iadd (pc := 1695) X dL_law_1695 ?_
      refine vv_iaload (pc := 1696) X dL_law_1696 (fun v370 => ?_)
      refine vv_aload_n (pc := 1697) X (kf := 3) (i := 3) rfl 3 rfl dL_law_1697 ?_
      refine vv_callI (pc := 1698) (rest := []) (by rfl) (fun r8 k8 e8 => zz_callSX X (m_X0_bestPut (hlM X) _ _ _ _ _ _ e8) q3314 q3315 q131 q3316 nh_X0 rfl (by decide) (by decide) (Nat.le_of_ble_eq_true rfl) dL_law_1698) (fun v371 h372 => ?_)
      refine vv_istore (pc := 1701) (lv' := [(5, LI v371), (0, LR x0), (1, LR x1), (2, LR x2), (3, LR x3), (4, LI x4)]) X (by decide) rfl dL_law_1701 ?_
      refine vv_aload_n (pc := 1703) X (kf := 2) (i := 2) rfl 3 rfl dL_law_1703 ?_
      refine vv_aload_n (pc := 1704) X (kf := 0) (i := 0) rfl 1 rfl dL_law_1704 ?_
      refine vv_iload (pc := 1705) X 5 rfl dL_law_1705 ?_
      refine vv_iconst (pc := 1707) X dL_law_1707 ?_
      refine vv_iadd (pc := 1708) X dL_law_1708 ?_
      refine vv_iaload (pc := 1709) X dL_law_1709 (fun v373 => ?_)
      refine vv_rcv (fun b376 t9 c9 fs9 e377 g9 k9 => ?_)
      cases List.mem_singleton.mp k9
      refine vv_callI (pc := 1710) (rest := []) (by rw [e377]; rfl) (fun r8 k8 e8 => zz_callV X (m_X9_bestPut (hlM X) _ _ _ _ _ e8) g9 rfl rfl q3999 q4000 q4001 q164 q4002 nh_X9 rfl (by decide) (by decide) (Nat.le_of_ble_eq_true rfl) dL_law_1710) (fun v374 h375 => ?_)
      refine vv_istore (pc := 1713) (lv' := [(6, LI v374), (5, LI v371), (0, LR x0), (1, LR x1), (2, LR x2), (3, LR x3), (4, LI x4)]) X (by decide) rfl dL_law_1713 ?_
      refine vv_aload_n (pc := 1715) X (kf := 2) (i := 2) rfl 4 rfl dL_law_1715 ?_
      refine vv_rcv (fun b380 t9 c9 fs9 e381 g9 k9 => ?_)
      cases List.mem_singleton.mp k9
      refine vv_callI (pc := 1716) (rest := []) (by rw [e381]; rfl) (fun r8 k8 e8 => zz_callV X (m_X9_thrown (hlM X) _ _ _ _ e8) g9 rfl rfl q3548 q3549 q3550 q164 q3551 nh_X9 rfl (by decide) (by decide) (Nat.le_of_ble_eq_true rfl) dL_law_1716) (fun v378 h379 => ?_)
      refine vv_iload (pc := 1719) X 1 rfl dL_law_1719 ?_
      refine vv_icmp_eq (pc := 1721) (tgt := 1726) X dL_law_1721 rfl ?_ ?_
      · refine vv_iload (pc := 1726) X 1 rfl dL_law_1726 ?_
        refine vv_if_ne (pc := 1728) (tgt := 1743) X dL_law_1728 rfl ?_ ?_
        · exact vv_sub [2, 3, 4, 5, 6] (by rfl) (B_L_law_1743 X r23 hr23 _ _ _ _ _ _)
        · refine vv_aload_n (pc := 1731) X (kf := 3) (i := 3) rfl 5 rfl dL_law_1731 ?_
          refine vv_iconst (pc := 1732) X dL_law_1732 ?_
          refine vv_laload (pc := 1733) X dL_law_1733 (fun v382 => ?_)
          refine vv_iload (pc := 1734) X 0 rfl dL_law_1734 ?_
          refine vv_i2l (pc := 1736) X dL_law_1736 ?_
          refine vv_lcmp (pc := 1737) X dL_law_1737 ?_
          refine vv_if_eq (pc := 1738) (tgt := 1743) X dL_law_1738 rfl ?_ ?_
          · exact vv_sub [2, 3, 4, 5, 6] (by rfl) (B_L_law_1743 X r23 hr23 _ _ _ _ _ _)
          · refine vv_iconst (pc := 1741) X dL_law_1741 ?_
            exact vv_iret0 X rfl rfl dL_law_1742
      · refine vv_iconst (pc := 1724) X dL_law_1724 ?_
        exact vv_iret0 X rfl rfl dL_law_1725
    refine vv_if (fun e28 => ?_) (fun e28 => ?_)
    · refine vv_tsw (pc := 40) (off := 1706) (tgt := 1746) X dL_law_40 hr (by omega) (by omega) (by rw [e28]; rfl) rfl ?_
      refine vv_aload_n (pc := 1746) X (kf := 1) (i := 1) rfl 1 rfl dL_law_1746 ?_
      refine vv_aload_n (pc := 1747) X (kf := 0) (i := 0) rfl 0 rfl dL_law_1747 ?_
      refine vv_iload (pc := 1748) X 4 rfl dL_law_1748 ?_
      refine vv_iconst (pc := 1750) X dL_law_1750 ?_
      refine vv_iadd (pc := 1751) X dL_law_1751 ?_
      refine vv_iaload (pc := 1752) X dL_law_1752 (fun v383 => ?_)
      refine vv_aload_n (pc := 1753) X (kf := 3) (i := 3) rfl 3 rfl dL_law_1753 ?_
      refine vv_callI (pc := 1754) (rest := []) (by rfl) (fun r8 k8 e8 => zz_callSX X (m_X0_bestFirm (hlM X) _ _ _ _ _ _ e8) q3321 q3322 q131 q3323 nh_X0 rfl (by decide) (by decide) (Nat.le_of_ble_eq_true rfl) dL_law_1754) (fun v384 h385 => ?_)
      refine vv_istore (pc := 1757) (lv' := [(5, LI v384), (0, LR x0), (1, LR x1), (2, LR x2), (3, LR x3), (4, LI x4)]) X (by decide) rfl dL_law_1757 ?_
      refine vv_aload_n (pc := 1759) X (kf := 2) (i := 2) rfl 3 rfl dL_law_1759 ?_
      refine vv_aload_n (pc := 1760) X (kf := 0) (i := 0) rfl 1 rfl dL_law_1760 ?_
      refine vv_iload (pc := 1761) X 5 rfl dL_law_1761 ?_
      refine vv_iconst (pc := 1763) X dL_law_1763 ?_
      refine vv_iadd (pc := 1764) X dL_law_1764 ?_
      refine vv_iaload (pc := 1765) X dL_law_1765 (fun v386 => ?_)
      refine vv_rcv (fun b389 t9 c9 fs9 e390 g9 k9 => ?_)
      cases List.mem_singleton.mp k9
      refine vv_callI (pc := 1766) (rest := []) (by rw [e390]; rfl) (fun r8 k8 e8 => zz_callV X (m_X9_bestFirm (hlM X) _ _ _ _ _ e8) g9 rfl rfl q4003 q4004 q4005 q164 q4006 nh_X9 rfl (by decide) (by decide) (Nat.le_of_ble_eq_true rfl) dL_law_1766) (fun v387 h388 => ?_)
      refine vv_istore (pc := 1769) (lv' := [(6, LI v387), (5, LI v384), (0, LR x0), (1, LR x1), (2, LR x2), (3, LR x3), (4, LI x4)]) X (by decide) rfl dL_law_1769 ?_
      refine vv_aload_n (pc := 1771) X (kf := 2) (i := 2) rfl 4 rfl dL_law_1771 ?_
      refine vv_rcv (fun b393 t9 c9 fs9 e394 g9 k9 => ?_)
      cases List.mem_singleton.mp k9
      refine vv_callI (pc := 1772) (rest := []) (by rw [e394]; rfl) (fun r8 k8 e8 => zz_callV X (m_X9_thrown (hlM X) _ _ _ _ e8) g9 rfl rfl q3548 q3549 q3550 q164 q3551 nh_X9 rfl (by decide) (by decide) (Nat.le_of_ble_eq_true rfl) dL_law_1772) (fun v391 h392 => ?_)
      refine vv_iload (pc := 1775) X 1 rfl dL_law_1775 ?_
      refine vv_icmp_eq (pc := 1777) (tgt := 1782) X dL_law_1777 rfl ?_ ?_
      · refine vv_iload (pc := 1782) X 1 rfl dL_law_1782 ?_
        refine vv_if_ne (pc := 1784) (tgt := 1799) X dL_law_1784 rfl ?_ ?_
        · exact vv_sub [2, 3, 4, 5, 6] (by rfl) (B_L_law_1799 X r23 hr23 _ _ _ _ _ _)
        · refine vv_aload_n (pc := 1787) X (kf := 3) (i := 3) rfl 5 rfl dL_law_1787 ?_
          refine vv_iconst (pc := 1788) X dL_law_1788 ?_
          refine vv_laload (pc := 1789) X dL_law_1789 (fun v395 => ?_)
          refine vv_iload (pc := 1790) X 0 rfl dL_law_1790 ?_
          refine vv_i2l (pc := 1792) X dL_law_1792 ?_
          refine vv_lcmp (pc := 1793) X dL_law_1793 ?_
          refine vv_if_eq (pc := 1794) (tgt := 1799) X dL_law_1794 rfl ?_ ?_
          · exact vv_sub [2, 3, 4, 5, 6] (by rfl) (B_L_law_1799 X r23 hr23 _ _ _ _ _ _)
          · refine vv_iconst (pc := 1797) X dL_law_1797 ?_
            exact vv_iret0 X rfl rfl dL_law_1798
      · refine vv_iconst (pc := 1780) X dL_law_1780 ?_
        exact vv_iret0 X rfl rfl dL_law_1781
    refine vv_if (fun e29 => ?_) (fun e29 => ?_)
    · refine vv_tsw (pc := 40) (off := 1762) (tgt := 1802) X dL_law_40 hr (by omega) (by omega) (by rw [e29]; rfl) rfl ?_
      refine vv_aload_n (pc := 1802) X (kf := 1) (i := 1) rfl 1 rfl dL_law_1802 ?_
      refine vv_aload_n (pc := 1803) X (kf := 0) (i := 0) rfl 0 rfl dL_law_1803 ?_
      refine vv_iload (pc := 1804) X 4 rfl dL_law_1804 ?_
      refine vv_iconst (pc := 1806) X dL_law_1806 ?_
      refine vv_iadd (pc := 1807) X dL_law_1807 ?_
      refine vv_iaload (pc := 1808) X dL_law_1808 (fun v396 => ?_)
      refine vv_aload_n (pc := 1809) X (kf := 3) (i := 3) rfl 3 rfl dL_law_1809 ?_
      refine vv_callI (pc := 1810) (rest := []) (by rfl) (fun r8 k8 e8 => zz_callSX X (m_X0_lostIf (hlM X) _ _ _ _ _ _ e8) q3332 q3333 q131 q3334 nh_X0 rfl (by decide) (by decide) (Nat.le_of_ble_eq_true rfl) dL_law_1810) (fun v397 h398 => ?_)
      refine vv_istore (pc := 1813) (lv' := [(5, LI v397), (0, LR x0), (1, LR x1), (2, LR x2), (3, LR x3), (4, LI x4)]) X (by decide) rfl dL_law_1813 ?_
      refine vv_aload_n (pc := 1815) X (kf := 2) (i := 2) rfl 3 rfl dL_law_1815 ?_
      refine vv_aload_n (pc := 1816) X (kf := 0) (i := 0) rfl 1 rfl dL_law_1816 ?_
      refine vv_iload (pc := 1817) X 5 rfl dL_law_1817 ?_
      refine vv_iconst (pc := 1819) X dL_law_1819 ?_
      refine vv_iadd (pc := 1820) X dL_law_1820 ?_
      refine vv_iaload (pc := 1821) X dL_law_1821 (fun v399 => ?_)
      refine vv_rcv (fun b402 t9 c9 fs9 e403 g9 k9 => ?_)
      cases List.mem_singleton.mp k9
      refine vv_callI (pc := 1822) (rest := []) (by rw [e403]; rfl) (fun r8 k8 e8 => zz_callV X (m_X9_lostIf (hlM X) _ _ _ _ _ e8) g9 rfl rfl q4007 q4008 q4009 q164 q4010 nh_X9 rfl (by decide) (by decide) (Nat.le_of_ble_eq_true rfl) dL_law_1822) (fun v400 h401 => ?_)
      refine vv_istore (pc := 1825) (lv' := [(6, LI v400), (5, LI v397), (0, LR x0), (1, LR x1), (2, LR x2), (3, LR x3), (4, LI x4)]) X (by decide) rfl dL_law_1825 ?_
      refine vv_aload_n (pc := 1827) X (kf := 2) (i := 2) rfl 4 rfl dL_law_1827 ?_
      refine vv_rcv (fun b406 t9 c9 fs9 e407 g9 k9 => ?_)
      cases List.mem_singleton.mp k9
      refine vv_callI (pc := 1828) (rest := []) (by rw [e407]; rfl) (fun r8 k8 e8 => zz_callV X (m_X9_thrown (hlM X) _ _ _ _ e8) g9 rfl rfl q3548 q3549 q3550 q164 q3551 nh_X9 rfl (by decide) (by decide) (Nat.le_of_ble_eq_true rfl) dL_law_1828) (fun v404 h405 => ?_)
      refine vv_iload (pc := 1831) X 1 rfl dL_law_1831 ?_
      refine vv_icmp_eq (pc := 1833) (tgt := 1838) X dL_law_1833 rfl ?_ ?_
      · refine vv_iload (pc := 1838) X 1 rfl dL_law_1838 ?_
        refine vv_if_ne (pc := 1840) (tgt := 1855) X dL_law_1840 rfl ?_ ?_
        · exact vv_sub [2, 3, 4, 5, 6] (by rfl) (B_L_law_1855 X r23 hr23 _ _ _ _ _ _)
        · refine vv_aload_n (pc := 1843) X (kf := 3) (i := 3) rfl 5 rfl dL_law_1843 ?_
          refine vv_iconst (pc := 1844) X dL_law_1844 ?_
          refine vv_laload (pc := 1845) X dL_law_1845 (fun v408 => ?_)
          refine vv_iload (pc := 1846) X 0 rfl dL_law_1846 ?_
          refine vv_i2l (pc := 1848) X dL_law_1848 ?_
          refine vv_lcmp (pc := 1849) X dL_law_1849 ?_
          refine vv_if_eq (pc := 1850) (tgt := 1855) X dL_law_1850 rfl ?_ ?_
          · exact vv_sub [2, 3, 4, 5, 6] (by rfl) (B_L_law_1855 X r23 hr23 _ _ _ _ _ _)
          · refine vv_iconst (pc := 1853) X dL_law_1853 ?_
            exact vv_iret0 X rfl rfl dL_law_1854
      · refine vv_iconst (pc := 1836) X dL_law_1836 ?_
        exact vv_iret0 X rfl rfl dL_law_1837
    refine vv_if (fun e30 => ?_) (fun e30 => ?_)
    · refine vv_tsw (pc := 40) (off := 1818) (tgt := 1858) X dL_law_40 hr (by omega) (by omega) (by rw [e30]; rfl) rfl ?_
      refine vv_aload_n (pc := 1858) X (kf := 1) (i := 1) rfl 1 rfl dL_law_1858 ?_
      refine vv_aload_n (pc := 1859) X (kf := 0) (i := 0) rfl 0 rfl dL_law_1859 ?_
      refine vv_iload (pc := 1860) X 4 rfl dL_law_1860 ?_
      refine vv_iconst (pc := 1862) X dL_law_1862 ?_
      refine vv_iadd (pc := 1863) X dL_law_1863 ?_
      refine vv_iaload (pc := 1864) X dL_law_1864 (fun v409 => ?_)
      refine vv_aload_n (pc := 1865) X (kf := 0) (i := 0) rfl 0 rfl dL_law_1865 ?_
      refine vv_iload (pc := 1866) X 4 rfl dL_law_1866 ?_
      refine vv_iconst (pc := 1868) X dL_law_1868 ?_
      refine vv_iadd (pc := 1869) X dL_law_1869 ?_
      refine vv_iaload (pc := 1870) X dL_law_1870 (fun v410 => ?_)
      refine vv_aload_n (pc := 1871) X (kf := 3) (i := 3) rfl 3 rfl dL_law_1871 ?_
      refine vv_callI (pc := 1872) (rest := []) (by rfl) (fun r8 k8 e8 => zz_callSX X (m_X0_put (hlM X) _ _ _ _ _ _ _ e8) q3348 q3349 q131 q3350 nh_X0 rfl (by decide) (by decide) (Nat.le_of_ble_eq_true rfl) dL_law_1872) (fun v411 h412 => ?_)
      refine vv_istore (pc := 1875) (lv' := [(5, LI v411), (0, LR x0), (1, LR x1), (2, LR x2), (3, LR x3), (4, LI x4)]) X (by decide) rfl dL_law_1875 ?_
      refine vv_aload_n (pc := 1877) X (kf := 2) (i := 2) rfl 3 rfl dL_law_1877 ?_
      refine vv_aload_n (pc := 1878) X (kf := 0) (i := 0) rfl 1 rfl dL_law_1878 ?_
      refine vv_iload (pc := 1879) X 5 rfl dL_law_1879 ?_
      refine vv_iconst (pc := 1881) X dL_law_1881 ?_
      refine vv_iadd (pc := 1882) X dL_law_1882 ?_
      refine vv_iaload (pc := 1883) X dL_law_1883 (fun v413 => ?_)
      refine vv_aload_n (pc := 1884) X (kf := 0) (i := 0) rfl 1 rfl dL_law_1884 ?_
      refine vv_iload (pc := 1885) X 5 rfl dL_law_1885 ?_
      refine vv_iconst (pc := 1887) X dL_law_1887 ?_
      refine vv_iadd (pc := 1888) X dL_law_1888 ?_
      refine vv_iaload (pc := 1889) X dL_law_1889 (fun v414 => ?_)
      refine vv_rcv (fun b417 t9 c9 fs9 e418 g9 k9 => ?_)
      cases List.mem_singleton.mp k9
      refine vv_callI (pc := 1890) (rest := []) (by rw [e418]; rfl) (fun r8 k8 e8 => zz_callV X (m_X9_put (hlM X) _ _ _ _ _ _ e8) g9 rfl rfl q4011 q4012 q4013 q164 q4014 nh_X9 rfl (by decide) (by decide) (Nat.le_of_ble_eq_true rfl) dL_law_1890) (fun v415 h416 => ?_)
      refine vv_istore (pc := 1893) (lv' := [(6, LI v415), (5, LI v411), (0, LR x0), (1, LR x1), (2, LR x2), (3, LR x3), (4, LI x4)]) X (by decide) rfl dL_law_1893 ?_
      refine vv_aload_n (pc := 1895) X (kf := 2) (i := 2) rfl 4 rfl dL_law_1895 ?_
      refine vv_rcv (fun b421 t9 c9 fs9 e422 g9 k9 => ?_)
      cases List.mem_singleton.mp k9
      refine vv_callI (pc := 1896) (rest := []) (by rw [e422]; rfl) (fun r8 k8 e8 => zz_callV X (m_X9_thrown (hlM X) _ _ _ _ e8) g9 rfl rfl q3548 q3549 q3550 q164 q3551 nh_X9 rfl (by decide) (by decide) (Nat.le_of_ble_eq_true rfl) dL_law_1896) (fun v419 h420 => ?_)
      refine vv_iload (pc := 1899) X 1 rfl dL_law_1899 ?_
      refine vv_icmp_eq (pc := 1901) (tgt := 1906) X dL_law_1901 rfl ?_ ?_
      · refine vv_iload (pc := 1906) X 1 rfl dL_law_1906 ?_
        refine vv_if_ne (pc := 1908) (tgt := 1923) X dL_law_1908 rfl ?_ ?_
        · exact vv_sub [2, 3, 4, 5, 6] (by rfl) (B_L_law_1923 X r23 hr23 _ _ _ _ _ _)
        · refine vv_aload_n (pc := 1911) X (kf := 3) (i := 3) rfl 5 rfl dL_law_1911 ?_
          refine vv_iconst (pc := 1912) X dL_law_1912 ?_
          refine vv_laload (pc := 1913) X dL_law_1913 (fun v423 => ?_)
          refine vv_iload (pc := 1914) X 0 rfl dL_law_1914 ?_
          refine vv_i2l (pc := 1916) X dL_law_1916 ?_
          refine vv_lcmp (pc := 1917) X dL_law_1917 ?_
          refine vv_if_eq (pc := 1918) (tgt := 1923) X dL_law_1918 rfl ?_ ?_
          · exact vv_sub [2, 3, 4, 5, 6] (by rfl) (B_L_law_1923 X r23 hr23 _ _ _ _ _ _)
          · refine vv_iconst (pc := 1921) X dL_law_1921 ?_
            exact vv_iret0 X rfl rfl dL_law_1922
      · refine vv_iconst (pc := 1904) X dL_law_1904 ?_
        exact vv_iret0 X rfl rfl dL_law_1905
    refine vv_if (fun e31 => ?_) (fun e31 => ?_)
    · refine vv_tsw (pc := 40) (off := 1886) (tgt := 1926) X dL_law_40 hr (by omega) (by omega) (by rw [e31]; rfl) rfl ?_
      refine vv_aload_n (pc := 1926) X (kf := 1) (i := 1) rfl 1 rfl dL_law_1926 ?_
      refine vv_aload_n (pc := 1927) X (kf := 0) (i := 0) rfl 0 rfl dL_law_1927 ?_
      refine vv_iload (pc := 1928) X 4 rfl dL_law_1928 ?_
      refine vv_iconst (pc := 1930) X dL_law_1930 ?_
      refine vv_iadd (pc := 1931) X dL_law_1931 ?_
      refine vv_iaload (pc := 1932) X dL_law_1932 (fun v424 => ?_)
      refine vv_aload_n (pc := 1933) X (kf := 0) (i := 0) rfl 0 rfl dL_law_1933 ?_
      refine vv_iload (pc := 1934) X 4 rfl dL_law_1934 ?_
      refine vv_iconst (pc := 1936) X dL_law_1936 ?_
      refine vv_iadd (pc := 1937) X dL_law_1937 ?_
      refine vv_iaload (pc := 1938) X dL_law_1938 (fun v425 => ?_)
      refine vv_aload_n (pc := 1939) X (kf := 3) (i := 3) rfl 3 rfl dL_law_1939 ?_
      refine vv_callI (pc := 1940) (rest := []) (by rfl) (fun r8 k8 e8 => zz_callSX X (m_X0_insert (hlM X) _ _ _ _ _ _ _ e8) q3363 q3364 q131 q3365 nh_X0 rfl (by decide) (by decide) (Nat.le_of_ble_eq_true rfl) dL_law_1940) (fun v426 h427 => ?_)
      refine vv_istore (pc := 1943) (lv' := [(5, LI v426), (0, LR x0), (1, LR x1), (2, LR x2), (3, LR x3), (4, LI x4)]) X (by decide) rfl dL_law_1943 ?_
      refine vv_aload_n (pc := 1945) X (kf := 2) (i := 2) rfl 3 rfl dL_law_1945 ?_
      refine vv_aload_n (pc := 1946) X (kf := 0) (i := 0) rfl 1 rfl dL_law_1946 ?_
      refine vv_iload (pc := 1947) X 5 rfl dL_law_1947 ?_
      refine vv_iconst (pc := 1949) X dL_law_1949 ?_
      refine vv_iadd (pc := 1950) X dL_law_1950 ?_
      refine vv_iaload (pc := 1951) X dL_law_1951 (fun v428 => ?_)
      refine vv_aload_n (pc := 1952) X (kf := 0) (i := 0) rfl 1 rfl dL_law_1952 ?_
      refine vv_iload (pc := 1953) X 5 rfl dL_law_1953 ?_
      refine vv_iconst (pc := 1955) X dL_law_1955 ?_
      refine vv_iadd (pc := 1956) X dL_law_1956 ?_
      refine vv_iaload (pc := 1957) X dL_law_1957 (fun v429 => ?_)
      refine vv_rcv (fun b432 t9 c9 fs9 e433 g9 k9 => ?_)
      cases List.mem_singleton.mp k9
      refine vv_callI (pc := 1958) (rest := []) (by rw [e433]; rfl) (fun r8 k8 e8 => zz_callV X (m_X9_insert (hlM X) _ _ _ _ _ _ e8) g9 rfl rfl q4027 q4028 q4029 q164 q4030 nh_X9 rfl (by decide) (by decide) (Nat.le_of_ble_eq_true rfl) dL_law_1958) (fun v430 h431 => ?_)
      refine vv_istore (pc := 1961) (lv' := [(6, LI v430), (5, LI v426), (0, LR x0), (1, LR x1), (2, LR x2), (3, LR x3), (4, LI x4)]) X (by decide) rfl dL_law_1961 ?_
      refine vv_aload_n (pc := 1963) X (kf := 2) (i := 2) rfl 4 rfl dL_law_1963 ?_
      refine vv_rcv (fun b436 t9 c9 fs9 e437 g9 k9 => ?_)
      cases List.mem_singleton.mp k9
      refine vv_callI (pc := 1964) (rest := []) (by rw [e437]; rfl) (fun r8 k8 e8 => zz_callV X (m_X9_thrown (hlM X) _ _ _ _ e8) g9 rfl rfl q3548 q3549 q3550 q164 q3551 nh_X9 rfl (by decide) (by decide) (Nat.le_of_ble_eq_true rfl) dL_law_1964) (fun v434 h435 => ?_)
      refine vv_iload (pc := 1967) X 1 rfl dL_law_1967 ?_
      refine vv_icmp_eq (pc := 1969) (tgt := 1974) X dL_law_1969 rfl ?_ ?_
      · refine vv_iload (pc := 1974) X 1 rfl dL_law_1974 ?_
        refine vv_if_ne (pc := 1976) (tgt := 1991) X dL_law_1976 rfl ?_ ?_
        · exact vv_sub [2, 3, 4, 5, 6] (by rfl) (B_L_law_1991 X r23 hr23 _ _ _ _ _ _)
        · refine vv_aload_n (pc := 1979) X (kf := 3) (i := 3) rfl 5 rfl dL_law_1979 ?_
          refine vv_iconst (pc := 1980) X dL_law_1980 ?_
          refine vv_laload (pc := 1981) X dL_law_1981 (fun v438 => ?_)
          refine vv_iload (pc := 1982) X 0 rfl dL_law_1982 ?_
          refine vv_i2l (pc := 1984) X dL_law_1984 ?_
          refine vv_lcmp (pc := 1985) X dL_law_1985 ?_
          refine vv_if_eq (pc := 1986) (tgt := 1991) X dL_law_1986 rfl ?_ ?_
          · exact vv_sub [2, 3, 4, 5, 6] (by rfl) (B_L_law_1991 X r23 hr23 _ _ _ _ _ _)
          · refine vv_iconst (pc := 1989) X dL_law_1989 ?_
            exact vv_iret0 X rfl rfl dL_law_1990
      · refine vv_iconst (pc := 1972) X dL_law_1972 ?_
        exact vv_iret0 X rfl rfl dL_law_1973
    refine vv_if (fun e32 => ?_) (fun e32 => ?_)
    · refine vv_tsw (pc := 40) (off := 1954) (tgt := 1994) X dL_law_40 hr (by omega) (by omega) (by rw [e32]; rfl) rfl ?_
      refine vv_aload_n (pc := 1994) X (kf := 1) (i := 1) rfl 1 rfl dL_law_1994 ?_
      refine vv_aload_n (pc := 1995) X (kf := 0) (i := 0) rfl 0 rfl dL_law_1995 ?_
      refine vv_iload (pc := 1996) X 4 rfl dL_law_1996 ?_
      refine vv_iconst (pc := 1998) X dL_law_1998 ?_
      refine vv_iadd (pc := 1999) X dL_law_1999 ?_
      refine vv_iaload (pc := 2000) X dL_law_2000 (fun v439 => ?_)
      refine vv_aload_n (pc := 2001) X (kf := 3) (i := 3) rfl 3 rfl dL_law_2001 ?_
      refine vv_callI (pc := 2002) (rest := []) (by rfl) (fun r8 k8 e8 => zz_callSX X (m_X0_erase (hlM X) _ _ _ _ _ _ e8) q3371 q3372 q131 q3373 nh_X0 rfl (by decide) (by decide) (Nat.le_of_ble_eq_true rfl) dL_law_2002) (fun v440 h441 => ?_)
      refine vv_istore (pc := 2005) (lv' := [(5, LI v440), (0, LR x0), (1, LR x1), (2, LR x2), (3, LR x3), (4, LI x4)]) X (by decide) rfl dL_law_2005 ?_
      refine vv_aload_n (pc := 2007) X (kf := 2) (i := 2) rfl 3 rfl dL_law_2007 ?_
      refine vv_aload_n (pc := 2008) X (kf := 0) (i := 0) rfl 1 rfl dL_law_2008 ?_
      refine vv_iload (pc := 2009) X 5 rfl dL_law_2009 ?_
      refine vv_iconst (pc := 2011) X dL_law_2011 ?_
      refine vv_iadd (pc := 2012) X dL_law_2012 ?_
      refine vv_iaload (pc := 2013) X dL_law_2013 (fun v442 => ?_)
      refine vv_rcv (fun b445 t9 c9 fs9 e446 g9 k9 => ?_)
      cases List.mem_singleton.mp k9
      refine vv_callI (pc := 2014) (rest := []) (by rw [e446]; rfl) (fun r8 k8 e8 => zz_callV X (m_X9_erase (hlM X) _ _ _ _ _ e8) g9 rfl rfl q4031 q4032 q4033 q164 q4034 nh_X9 rfl (by decide) (by decide) (Nat.le_of_ble_eq_true rfl) dL_law_2014) (fun v443 h444 => ?_)
      refine vv_istore (pc := 2017) (lv' := [(6, LI v443), (5, LI v440), (0, LR x0), (1, LR x1), (2, LR x2), (3, LR x3), (4, LI x4)]) X (by decide) rfl dL_law_2017 ?_
      refine vv_aload_n (pc := 2019) X (kf := 2) (i := 2) rfl 4 rfl dL_law_2019 ?_
      refine vv_rcv (fun b449 t9 c9 fs9 e450 g9 k9 => ?_)
      cases List.mem_singleton.mp k9
      refine vv_callI (pc := 2020) (rest := []) (by rw [e450]; rfl) (fun r8 k8 e8 => zz_callV X (m_X9_thrown (hlM X) _ _ _ _ e8) g9 rfl rfl q3548 q3549 q3550 q164 q3551 nh_X9 rfl (by decide) (by decide) (Nat.le_of_ble_eq_true rfl) dL_law_2020) (fun v447 h448 => ?_)
      refine vv_iload (pc := 2023) X 1 rfl dL_law_2023 ?_
      refine vv_icmp_eq (pc := 2025) (tgt := 2030) X dL_law_2025 rfl ?_ ?_
      · refine vv_iload (pc := 2030) X 1 rfl dL_law_2030 ?_
        refine vv_if_ne (pc := 2032) (tgt := 2047) X dL_law_2032 rfl ?_ ?_
        · exact vv_sub [2, 3, 4, 5, 6] (by rfl) (B_L_law_2047 X r23 hr23 _ _ _ _ _ _)
        · refine vv_aload_n (pc := 2035) X (kf := 3) (i := 3) rfl 5 rfl dL_law_2035 ?_
          refine vv_iconst (pc := 2036) X dL_law_2036 ?_
          refine vv_laload (pc := 2037) X dL_law_2037 (fun v451 => ?_)
          refine vv_iload (pc := 2038) X 0 rfl dL_law_2038 ?_
          refine vv_i2l (pc := 2040) X dL_law_2040 ?_
          refine vv_lcmp (pc := 2041) X dL_law_2041 ?_
          refine vv_if_eq (pc := 2042) (tgt := 2047) X dL_law_2042 rfl ?_ ?_
          · exact vv_sub [2, 3, 4, 5, 6] (by rfl) (B_L_law_2047 X r23 hr23 _ _ _ _ _ _)
          · refine vv_iconst (pc := 2045) X dL_law_2045 ?_
            exact vv_iret0 X rfl rfl dL_law_2046
      · refine vv_iconst (pc := 2028) X dL_law_2028 ?_
        exact vv_iret0 X rfl rfl dL_law_2029
    refine vv_if (fun e33 => ?_) (fun e33 => ?_)
    · refine vv_tsw (pc := 40) (off := 2010) (tgt := 2050) X dL_law_40 hr (by omega) (by omega) (by rw [e33]; rfl) rfl ?_
      refine vv_aload_n (pc := 2050) X (kf := 1) (i := 1) rfl 1 rfl dL_law_2050 ?_
      refine vv_aload_n (pc := 2051) X (kf := 0) (i := 0) rfl 0 rfl dL_law_2051 ?_
      refine vv_iload (pc := 2052) X 4 rfl dL_law_2052 ?_
      refine vv_iconst (pc := 2054) X dL_law_2054 ?_
      refine vv_iadd (pc := 2055) X dL_law_2055 ?_
      refine vv_iaload (pc := 2056) X dL_law_2056 (fun v452 => ?_)
      refine vv_aload_n (pc := 2057) X (kf := 3) (i := 3) rfl 3 rfl dL_law_2057 ?_
      refine vv_callI (pc := 2058) (rest := []) (by rfl) (fun r8 k8 e8 => zz_callSX X (m_X0_mark (hlM X) _ _ _ _ _ _ e8) q3379 q3380 q131 q3381 nh_X0 rfl (by decide) (by decide) (Nat.le_of_ble_eq_true rfl) dL_law_2058) (fun v453 h454 => ?_)
      refine vv_istore (pc := 2061) (lv' := [(5, LI v453), (0, LR x0), (1, LR x1), (2, LR x2), (3, LR x3), (4, LI x4)]) X (by decide) rfl dL_law_2061 ?_
      refine vv_aload_n (pc := 2063) X (kf := 2) (i := 2) rfl 3 rfl dL_law_2063 ?_
      refine vv_aload_n (pc := 2064) X (kf := 0) (i := 0) rfl 1 rfl dL_law_2064 ?_
      refine vv_iload (pc := 2065) X 5 rfl dL_law_2065 ?_
      refine vv_iconst (pc := 2067) X dL_law_2067 ?_
      refine vv_iadd (pc := 2068) X dL_law_2068 ?_
      refine vv_iaload (pc := 2069) X dL_law_2069 (fun v455 => ?_)
      refine vv_rcv (fun b458 t9 c9 fs9 e459 g9 k9 => ?_)
      cases List.mem_singleton.mp k9
      refine vv_callI (pc := 2070) (rest := []) (by rw [e459]; rfl) (fun r8 k8 e8 => zz_callV X (m_X9_mark (hlM X) _ _ _ _ _ e8) g9 rfl rfl q4035 q4036 q4037 q164 q4038 nh_X9 rfl (by decide) (by decide) (Nat.le_of_ble_eq_true rfl) dL_law_2070) (fun v456 h457 => ?_)
      refine vv_istore (pc := 2073) (lv' := [(6, LI v456), (5, LI v453), (0, LR x0), (1, LR x1), (2, LR x2), (3, LR x3), (4, LI x4)]) X (by decide) rfl dL_law_2073 ?_
      refine vv_aload_n (pc := 2075) X (kf := 2) (i := 2) rfl 4 rfl dL_law_2075 ?_
      refine vv_rcv (fun b462 t9 c9 fs9 e463 g9 k9 => ?_)
      cases List.mem_singleton.mp k9
      refine vv_callI (pc := 2076) (rest := []) (by rw [e463]; rfl) (fun r8 k8 e8 => zz_callV X (m_X9_thrown (hlM X) _ _ _ _ e8) g9 rfl rfl q3548 q3549 q3550 q164 q3551 nh_X9 rfl (by decide) (by decide) (Nat.le_of_ble_eq_true rfl) dL_law_2076) (fun v460 h461 => ?_)
      refine vv_iload (pc := 2079) X 1 rfl dL_law_2079 ?_
      refine vv_icmp_eq (pc := 2081) (tgt := 2086) X dL_law_2081 rfl ?_ ?_
      · refine vv_iload (pc := 2086) X 1 rfl dL_law_2086 ?_
        refine vv_if_ne (pc := 2088) (tgt := 2103) X dL_law_2088 rfl ?_ ?_
        · exact vv_sub [2, 3, 4, 5, 6] (by rfl) (B_L_law_2103 X r23 hr23 _ _ _ _ _ _)
        · refine vv_aload_n (pc := 2091) X (kf := 3) (i := 3) rfl 5 rfl dL_law_2091 ?_
          refine vv_iconst (pc := 2092) X dL_law_2092 ?_
          refine vv_laload (pc := 2093) X dL_law_2093 (fun v464 => ?_)
          refine vv_iload (pc := 2094) X 0 rfl dL_law_2094 ?_
          refine vv_i2l (pc := 2096) X dL_law_2096 ?_
          refine vv_lcmp (pc := 2097) X dL_law_2097 ?_
          refine vv_if_eq (pc := 2098) (tgt := 2103) X dL_law_2098 rfl ?_ ?_
          · exact vv_sub [2, 3, 4, 5, 6] (by rfl) (B_L_law_2103 X r23 hr23 _ _ _ _ _ _)
          · refine vv_iconst (pc := 2101) X dL_law_2101 ?_
            exact vv_iret0 X rfl rfl dL_law_2102
      · refine vv_iconst (pc := 2084) X dL_law_2084 ?_
        exact vv_iret0 X rfl rfl dL_law_2085
    refine vv_if (fun e34 => ?_) (fun e34 => ?_)
    · refine vv_tsw (pc := 40) (off := 2066) (tgt := 2106) X dL_law_40 hr (by omega) (by omega) (by rw [e34]; rfl) rfl ?_
      refine vv_aload_n (pc := 2106) X (kf := 1) (i := 1) rfl 1 rfl dL_law_2106 ?_
      refine vv_aload_n (pc := 2107) X (kf := 0) (i := 0) rfl 0 rfl dL_law_2107 ?_
      refine vv_iload (pc := 2108) X 4 rfl dL_law_2108 ?_
      refine vv_iconst (pc := 2110) X dL_law_2110 ?_
      refine vv_iadd (pc := 2111) X dL_law_2111 ?_
      refine vv_iaload (pc := 2112) X dL_law_2112 (fun v465 => ?_)
      refine vv_aload_n (pc := 2113) X (kf := 3) (i := 3) rfl 3 rfl dL_law_2113 ?_
      refine vv_callI (pc := 2114) (rest := []) (by rfl) (fun r8 k8 e8 => zz_callSX X (m_X0_unmark (hlM X) _ _ _ _ _ _ e8) q3387 q3388 q131 q3389 nh_X0 rfl (by decide) (by decide) (Nat.le_of_ble_eq_true rfl) dL_law_2114) (fun v466 h467 => ?_)
      refine vv_istore (pc := 2117) (lv' := [(5, LI v466), (0, LR x0), (1, LR x1), (2, LR x2), (3, LR x3), (4, LI x4)]) X (by decide) rfl dL_law_2117 ?_
      refine vv_aload_n (pc := 2119) X (kf := 2) (i := 2) rfl 3 rfl dL_law_2119 ?_
      refine vv_aload_n (pc := 2120) X (kf := 0) (i := 0) rfl 1 rfl dL_law_2120 ?_
      refine vv_iload (pc := 2121) X 5 rfl dL_law_2121 ?_
      refine vv_iconst (pc := 2123) X dL_law_2123 ?_
      refine vv_iadd (pc := 2124) X dL_law_2124 ?_
      refine vv_iaload (pc := 2125) X dL_law_2125 (fun v468 => ?_)
      refine vv_rcv (fun b471 t9 c9 fs9 e472 g9 k9 => ?_)
      cases List.mem_singleton.mp k9
      refine vv_callI (pc := 2126) (rest := []) (by rw [e472]; rfl) (fun r8 k8 e8 => zz_callV X (m_X9_unmark (hlM X) _ _ _ _ _ e8) g9 rfl rfl q4039 q4040 q4041 q164 q4042 nh_X9 rfl (by decide) (by decide) (Nat.le_of_ble_eq_true rfl) dL_law_2126) (fun v469 h470 => ?_)
      refine vv_istore (pc := 2129) (lv' := [(6, LI v469), (5, LI v466), (0, LR x0), (1, LR x1), (2, LR x2), (3, LR x3), (4, LI x4)]) X (by decide) rfl dL_law_2129 ?_
      refine vv_aload_n (pc := 2131) X (kf := 2) (i := 2) rfl 4 rfl dL_law_2131 ?_
      refine vv_rcv (fun b475 t9 c9 fs9 e476 g9 k9 => ?_)
      cases List.mem_singleton.mp k9
      refine vv_callI (pc := 2132) (rest := []) (by rw [e476]; rfl) (fun r8 k8 e8 => zz_callV X (m_X9_thrown (hlM X) _ _ _ _ e8) g9 rfl rfl q3548 q3549 q3550 q164 q3551 nh_X9 rfl (by decide) (by decide) (Nat.le_of_ble_eq_true rfl) dL_law_2132) (fun v473 h474 => ?_)
      refine vv_iload (pc := 2135) X 1 rfl dL_law_2135 ?_
      refine vv_icmp_eq (pc := 2137) (tgt := 2142) X dL_law_2137 rfl ?_ ?_
      · refine vv_iload (pc := 2142) X 1 rfl dL_law_2142 ?_
        refine vv_if_ne (pc := 2144) (tgt := 2159) X dL_law_2144 rfl ?_ ?_
        · exact vv_sub [2, 3, 4, 5, 6] (by rfl) (B_L_law_2159 X r23 hr23 _ _ _ _ _ _)
        · refine vv_aload_n (pc := 2147) X (kf := 3) (i := 3) rfl 5 rfl dL_law_2147 ?_
          refine vv_iconst (pc := 2148) X dL_law_2148 ?_
          refine vv_laload (pc := 2149) X dL_law_2149 (fun v477 => ?_)
          refine vv_iload (pc := 2150) X 0 rfl dL_law_2150 ?_
          refine vv_i2l (pc := 2152) X dL_law_2152 ?_
          refine vv_lcmp (pc := 2153) X dL_law_2153 ?_
          refine vv_if_eq (pc := 2154) (tgt := 2159) X dL_law_2154 rfl ?_ ?_
          · exact vv_sub [2, 3, 4, 5, 6] (by rfl) (B_L_law_2159 X r23 hr23 _ _ _ _ _ _)
          · refine vv_iconst (pc := 2157) X dL_law_2157 ?_
            exact vv_iret0 X rfl rfl dL_law_2158
      · refine vv_iconst (pc := 2140) X dL_law_2140 ?_
        exact vv_iret0 X rfl rfl dL_law_2141
    refine vv_if (fun e35 => ?_) (fun e35 => ?_)
    · refine vv_tsw (pc := 40) (off := 2122) (tgt := 2162) X dL_law_40 hr (by omega) (by omega) (by rw [e35]; rfl) rfl ?_
      refine vv_aload_n (pc := 2162) X (kf := 1) (i := 1) rfl 1 rfl dL_law_2162 ?_
      refine vv_aload_n (pc := 2163) X (kf := 0) (i := 0) rfl 0 rfl dL_law_2163 ?_
      refine vv_iload (pc := 2164) X 4 rfl dL_law_2164 ?_
      refine vv_iconst (pc := 2166) X dL_law_2166 ?_
      refine vv_iadd (pc := 2167) X dL_law_2167 ?_
      refine vv_iaload (pc := 2168) X dL_law_2168 (fun v478 => ?_)
      refine vv_aload_n (pc := 2169) X (kf := 0) (i := 0) rfl 0 rfl dL_law_2169 ?_
      refine vv_iload (pc := 2170) X 4 rfl dL_law_2170 ?_
      refine vv_iconst (pc := 2172) X dL_law_2172 ?_
      refine vv_iadd (pc := 2173) X dL_law_2173 ?_
      refine vv_iaload (pc := 2174) X dL_law_2174 (fun v479 => ?_)
      refine vv_aload_n (pc := 2175) X (kf := 0) (i := 0) rfl 0 rfl dL_law_2175 ?_
      refine vv_iload (pc := 2176) X 4 rfl dL_law_2176 ?_
      refine vv_iconst (pc := 2178) X dL_law_2178 ?_
      refine vv_iadd (pc := 2179) X dL_law_2179 ?_
      refine vv_iaload (pc := 2180) X dL_law_2180 (fun v480 => ?_)
      refine vv_aload_n (pc := 2181) X (kf := 0) (i := 0) rfl 0 rfl dL_law_2181 ?_
      refine vv_iload (pc := 2182) X 4 rfl dL_law_2182 ?_
      refine vv_iconst (pc := 2184) X dL_law_2184 ?_
      refine vv_iadd (pc := 2185) X dL_law_2185 ?_
      refine vv_iaload (pc := 2186) X dL_law_2186 (fun v481 => ?_)
      refine vv_aload_n (pc := 2187) X (kf := 3) (i := 3) rfl 3 rfl dL_law_2187 ?_
      refine vv_callI (pc := 2188) (rest := []) (by rfl) (fun r8 k8 e8 => zz_callSX X (m_X0_swap (hlM X) _ _ _ _ _ _ _ _ _ e8) q3396 q3397 q131 q3398 nh_X0 rfl (by decide) (by decide) (Nat.le_of_ble_eq_true rfl) dL_law_2188) (fun v482 h483 => ?_)
      refine vv_istore (pc := 2191) (lv' := [(5, LI v482), (0, LR x0), (1, LR x1), (2, LR x2), (3, LR x3), (4, LI x4)]) X (by decide) rfl dL_law_2191 ?_
      refine vv_aload_n (pc := 2193) X (kf := 2) (i := 2) rfl 3 rfl dL_law_2193 ?_
      refine vv_aload_n (pc := 2194) X (kf := 0) (i := 0) rfl 1 rfl dL_law_2194 ?_
      refine vv_iload (pc := 2195) X 5 rfl dL_law_2195 ?_
      refine vv_iconst (pc := 2197) X dL_law_2197 ?_
      refine vv_iadd (pc := 2198) X dL_law_2198 ?_
      refine vv_iaload (pc := 2199) X dL_law_2199 (fun v484 => ?_)
      refine vv_aload_n (pc := 2200) X (kf := 0) (i := 0) rfl 1 rfl dL_law_2200 ?_
      refine vv_iload (pc := 2201) X 5 rfl dL_law_2201 ?_
      refine vv_iconst (pc := 2203) X dL_law_2203 ?_
      refine vv_iadd (pc := 2204) X dL_law_2204 ?_
      refine vv_iaload (pc := 2205) X dL_law_2205 (fun v485 => ?_)
      refine vv_aload_n (pc := 2206) X (kf := 0) (i := 0) rfl 1 rfl dL_law_2206 ?_
      refine vv_iload (pc := 2207) X 5 rfl dL_law_2207 ?_
      refine vv_iconst (pc := 2209) X dL_law_2209 ?_
      refine vv_iadd (pc := 2210) X dL_law_2210 ?_
      refine vv_iaload (pc := 2211) X dL_law_2211 (fun v486 => ?_)
      refine vv_aload_n (pc := 2212) X (kf := 0) (i := 0) rfl 1 rfl dL_law_2212 ?_
      refine vv_iload (pc := 2213) X 5 rfl dL_law_2213 ?_
      refine vv_iconst (pc := 2215) X dL_law_2215 ?_
      refine vv_iadd (pc := 2216) X dL_law_2216 ?_
      refine vv_iaload (pc := 2217) X dL_law_2217 (fun v487 => ?_)
      refine vv_rcv (fun b490 t9 c9 fs9 e491 g9 k9 => ?_)
      cases List.mem_singleton.mp k9
      refine vv_callI (pc := 2218) (rest := []) (by rw [e491]; rfl) (fun r8 k8 e8 => zz_callV X (m_X9_swap (hlM X) _ _ _ _ _ _ _ _ e8) g9 rfl rfl q4043 q4044 q4045 q164 q4046 nh_X9 rfl (by decide) (by decide) (Nat.le_of_ble_eq_true rfl) dL_law_2218) (fun v488 h489 => ?_)
      refine vv_istore (pc := 2221) (lv' := [(6, LI v488), (5, LI v482), (0, LR x0), (1, LR x1), (2, LR x2), (3, LR x3), (4, LI x4)]) X (by decide) rfl dL_law_2221 ?_
      refine vv_aload_n (pc := 2223) X (kf := 2) (i := 2) rfl 4 rfl dL_law_2223 ?_
      refine vv_rcv (fun b494 t9 c9 fs9 e495 g9 k9 => ?_)
      cases List.mem_singleton.mp k9
      refine vv_callI (pc := 2224) (rest := []) (by rw [e495]; rfl) (fun r8 k8 e8 => zz_callV X (m_X9_thrown (hlM X) _ _ _ _ e8) g9 rfl rfl q3548 q3549 q3550 q164 q3551 nh_X9 rfl (by decide) (by decide) (Nat.le_of_ble_eq_true rfl) dL_law_2224) (fun v492 h493 => ?_)
      refine vv_iload (pc := 2227) X 1 rfl dL_law_2227 ?_
      refine vv_icmp_eq (pc := 2229) (tgt := 2234) X dL_law_2229 rfl ?_ ?_
      · refine vv_iload (pc := 2234) X 1 rfl dL_law_2234 ?_
        refine vv_if_ne (pc := 2236) (tgt := 2251) X dL_law_2236 rfl ?_ ?_
        · exact vv_sub [2, 3, 4, 5, 6] (by rfl) (B_L_law_2251 X r23 hr23 _ _ _ _ _ _)
        · refine vv_aload_n (pc := 2239) X (kf := 3) (i := 3) rfl 5 rfl dL_law_2239 ?_
          refine vv_iconst (pc := 2240) X dL_law_2240 ?_
          refine vv_laload (pc := 2241) X dL_law_2241 (fun v496 => ?_)
          refine vv_iload (pc := 2242) X 0 rfl dL_law_2242 ?_
          refine vv_i2l (pc := 2244) X dL_law_2244 ?_
          refine vv_lcmp (pc := 2245) X dL_law_2245 ?_
          refine vv_if_eq (pc := 2246) (tgt := 2251) X dL_law_2246 rfl ?_ ?_
          · exact vv_sub [2, 3, 4, 5, 6] (by rfl) (B_L_law_2251 X r23 hr23 _ _ _ _ _ _)
          · refine vv_iconst (pc := 2249) X dL_law_2249 ?_
            exact vv_iret0 X rfl rfl dL_law_2250
      · refine vv_iconst (pc := 2232) X dL_law_2232 ?_
        exact vv_iret0 X rfl rfl dL_law_2233
    refine vv_if (fun e36 => ?_) (fun e36 => ?_)
    · refine vv_tsw (pc := 40) (off := 2214) (tgt := 2254) X dL_law_40 hr (by omega) (by omega) (by rw [e36]; rfl) rfl ?_
      refine vv_aload_n (pc := 2254) X (kf := 1) (i := 1) rfl 1 rfl dL_law_2254 ?_
      refine vv_aload_n (pc := 2255) X (kf := 0) (i := 0) rfl 0 rfl dL_law_2255 ?_
      refine vv_iload (pc := 2256) X 4 rfl dL_law_2256 ?_
      refine vv_iconst (pc := 2258) X dL_law_2258 ?_
      refine vv_iadd (pc := 2259) X dL_law_2259 ?_
      refine vv_iaload (pc := 2260) X dL_law_2260 (fun v497 => ?_)
      refine vv_aload_n (pc := 2261) X (kf := 0) (i := 0) rfl 0 rfl dL_law_2261 ?_
      refine vv_iload (pc := 2262) X 4 rfl dL_law_2262 ?_
      refine vv_iconst (pc := 2264) X dL_law_2264 ?_
      refine vv_iadd (pc := 2265) X dL_law_2265 ?_
      refine vv_iaload (pc := 2266) X dL_law_2266 (fun v498 => ?_)
      refine vv_aload_n (pc := 2267) X (kf := 0) (i := 0) rfl 0 rfl dL_law_2267 ?_
      refine vv_iload (pc := 2268) X 4 rfl dL_law_2268 ?_
      refine vv_iconst (pc := 2270) X dL_law_2270 ?_
      refine vv_iadd (pc := 2271) X dL_law_2271 ?_
      refine vv_iaload (pc := 2272) X dL_law_2272 (fun v499 => ?_)
      refine vv_aload_n (pc := 2273) X (kf := 3) (i := 3) rfl 3 rfl dL_law_2273 ?_
      refine vv_callI (pc := 2274) (rest := []) (by rfl) (fun r8 k8 e8 => zz_callSX X (m_X0_take (hlM X) _ _ _ _ _ _ _ _ e8) q3404 q3405 q131 q3406 nh_X0 rfl (by decide) (by decide) (Nat.le_of_ble_eq_true rfl) dL_law_2274) (fun v500 h501 => ?_)
      refine vv_istore (pc := 2277) (lv' := [(5, LI v500), (0, LR x0), (1, LR x1), (2, LR x2), (3, LR x3), (4, LI x4)]) X (by decide) rfl dL_law_2277 ?_
      refine vv_aload_n (pc := 2279) X (kf := 2) (i := 2) rfl 3 rfl dL_law_2279 ?_
      refine vv_aload_n (pc := 2280) X (kf := 0) (i := 0) rfl 1 rfl dL_law_2280 ?_
      refine vv_iload (pc := 2281) X 5 rfl dL_law_2281 ?_
      refine vv_iconst (pc := 2283) X dL_law_2283 ?_
      refine vv_iadd (pc := 2284) X dL_law_2284 ?_
      refine vv_iaload (pc := 2285) X dL_law_2285 (fun v502 => ?_)
      refine vv_aload_n (pc := 2286) X (kf := 0) (i := 0) rfl 1 rfl dL_law_2286 ?_
      refine vv_iload (pc := 2287) X 5 rfl dL_law_2287 ?_
      refine vv_iconst (pc := 2289) X dL_law_2289 ?_
      refine vv_iadd (pc := 2290) X dL_law_2290 ?_
      refine vv_iaload (pc := 2291) X dL_law_2291 (fun v503 => ?_)
      refine vv_aload_n (pc := 2292) X (kf := 0) (i := 0) rfl 1 rfl dL_law_2292 ?_
      refine vv_iload (pc := 2293) X 5 rfl dL_law_2293 ?_
      refine vv_iconst (pc := 2295) X dL_law_2295 ?_
      refine vv_iadd (pc := 2296) X dL_law_2296 ?_
      refine vv_iaload (pc := 2297) X dL_law_2297 (fun v504 => ?_)
      refine vv_rcv (fun b507 t9 c9 fs9 e508 g9 k9 => ?_)
      cases List.mem_singleton.mp k9
      refine vv_callI (pc := 2298) (rest := []) (by rw [e508]; rfl) (fun r8 k8 e8 => zz_callV X (m_X9_take (hlM X) _ _ _ _ _ _ _ e8) g9 rfl rfl q4047 q4048 q4049 q164 q4050 nh_X9 rfl (by decide) (by decide) (Nat.le_of_ble_eq_true rfl) dL_law_2298) (fun v505 h506 => ?_)
      refine vv_istore (pc := 2301) (lv' := [(6, LI v505), (5, LI v500), (0, LR x0), (1, LR x1), (2, LR x2), (3, LR x3), (4, LI x4)]) X (by decide) rfl dL_law_2301 ?_
      refine vv_aload_n (pc := 2303) X (kf := 2) (i := 2) rfl 4 rfl dL_law_2303 ?_
      refine vv_rcv (fun b511 t9 c9 fs9 e512 g9 k9 => ?_)
      cases List.mem_singleton.mp k9
      refine vv_callI (pc := 2304) (rest := []) (by rw [e512]; rfl) (fun r8 k8 e8 => zz_callV X (m_X9_thrown (hlM X) _ _ _ _ e8) g9 rfl rfl q3548 q3549 q3550 q164 q3551 nh_X9 rfl (by decide) (by decide) (Nat.le_of_ble_eq_true rfl) dL_law_2304) (fun v509 h510 => ?_)
      refine vv_iload (pc := 2307) X 1 rfl dL_law_2307 ?_
      refine vv_icmp_eq (pc := 2309) (tgt := 2314) X dL_law_2309 rfl ?_ ?_
      · refine vv_iload (pc := 2314) X 1 rfl dL_law_2314 ?_
        refine vv_if_ne (pc := 2316) (tgt := 2331) X dL_law_2316 rfl ?_ ?_
        · exact vv_sub [2, 3, 4, 5, 6] (by rfl) (B_L_law_2331 X r23 hr23 _ _ _ _ _ _)
        · refine vv_aload_n (pc := 2319) X (kf := 3) (i := 3) rfl 5 rfl dL_law_2319 ?_
          refine vv_iconst (pc := 2320) X dL_law_2320 ?_
          refine vv_laload (pc := 2321) X dL_law_2321 (fun v513 => ?_)
          refine vv_iload (pc := 2322) X 0 rfl dL_law_2322 ?_
          refine vv_i2l (pc := 2324) X dL_law_2324 ?_
          refine vv_lcmp (pc := 2325) X dL_law_2325 ?_
          refine vv_if_eq (pc := 2326) (tgt := 2331) X dL_law_2326 rfl ?_ ?_
          · exact vv_sub [2, 3, 4, 5, 6] (by rfl) (B_L_law_2331 X r23 hr23 _ _ _ _ _ _)
          · refine vv_iconst (pc := 2329) X dL_law_2329 ?_
            exact vv_iret0 X rfl rfl dL_law_2330
      · refine vv_iconst (pc := 2312) X dL_law_2312 ?_
        exact vv_iret0 X rfl rfl dL_law_2313
    refine vv_if (fun e37 => ?_) (fun e37 => ?_)
    · refine vv_tsw (pc := 40) (off := 2294) (tgt := 2334) X dL_law_40 hr (by omega) (by omega) (by rw [e37]; rfl) rfl ?_
      refine vv_aload_n (pc := 2334) X (kf := 1) (i := 1) rfl 1 rfl dL_law_2334 ?_
      refine vv_aload_n (pc := 2335) X (kf := 0) (i := 0) rfl 0 rfl dL_law_2335 ?_
      refine vv_iload (pc := 2336) X 4 rfl dL_law_2336 ?_
      refine vv_iconst (pc := 2338) X dL_law_2338 ?_
      refine vv_iadd (pc := 2339) X dL_law_2339 ?_
      refine vv_iaload (pc := 2340) X dL_law_2340 (fun v514 => ?_)
      refine vv_aload_n (pc := 2341) X (kf := 3) (i := 3) rfl 3 rfl dL_law_2341 ?_
      refine vv_callI (pc := 2342) (rest := []) (by rfl) (fun r8 k8 e8 => zz_callSX X (m_X0_setFirm (hlM X) _ _ _ _ _ _ e8) q3413 q3414 q131 q3415 nh_X0 rfl (by decide) (by decide) (Nat.le_of_ble_eq_true rfl) dL_law_2342) (fun v515 h516 => ?_)
      refine vv_istore (pc := 2345) (lv' := [(5, LI v515), (0, LR x0), (1, LR x1), (2, LR x2), (3, LR x3), (4, LI x4)]) X (by decide) rfl dL_law_2345 ?_
      refine vv_aload_n (pc := 2347) X (kf := 2) (i := 2) rfl 3 rfl dL_law_2347 ?_
      refine vv_aload_n (pc := 2348) X (kf := 0) (i := 0) rfl 1 rfl dL_law_2348 ?_
      refine vv_iload (pc := 2349) X 5 rfl dL_law_2349 ?_
      refine vv_iconst (pc := 2351) X dL_law_2351 ?_
      refine vv_iadd (pc := 2352) X dL_law_2352 ?_
      refine vv_iaload (pc := 2353) X dL_law_2353 (fun v517 => ?_)
      refine vv_rcv (fun b520 t9 c9 fs9 e521 g9 k9 => ?_)
      cases List.mem_singleton.mp k9
      refine vv_callI (pc := 2354) (rest := []) (by rw [e521]; rfl) (fun r8 k8 e8 => zz_callV X (m_X9_setFirm (hlM X) _ _ _ _ _ e8) g9 rfl rfl q4051 q4052 q4053 q164 q4054 nh_X9 rfl (by decide) (by decide) (Nat.le_of_ble_eq_true rfl) dL_law_2354) (fun v518 h519 => ?_)
      refine vv_istore (pc := 2357) (lv' := [(6, LI v518), (5, LI v515), (0, LR x0), (1, LR x1), (2, LR x2), (3, LR x3), (4, LI x4)]) X (by decide) rfl dL_law_2357 ?_
      refine vv_aload_n (pc := 2359) X (kf := 2) (i := 2) rfl 4 rfl dL_law_2359 ?_
      refine vv_rcv (fun b524 t9 c9 fs9 e525 g9 k9 => ?_)
      cases List.mem_singleton.mp k9
      refine vv_callI (pc := 2360) (rest := []) (by rw [e525]; rfl) (fun r8 k8 e8 => zz_callV X (m_X9_thrown (hlM X) _ _ _ _ e8) g9 rfl rfl q3548 q3549 q3550 q164 q3551 nh_X9 rfl (by decide) (by decide) (Nat.le_of_ble_eq_true rfl) dL_law_2360) (fun v522 h523 => ?_)
      refine vv_iload (pc := 2363) X 1 rfl dL_law_2363 ?_
      refine vv_icmp_eq (pc := 2365) (tgt := 2370) X dL_law_2365 rfl ?_ ?_
      · refine vv_iload (pc := 2370) X 1 rfl dL_law_2370 ?_
        refine vv_if_ne (pc := 2372) (tgt := 2387) X dL_law_2372 rfl ?_ ?_
        · exact vv_sub [2, 3, 4, 5, 6] (by rfl) (B_L_law_2387 X r23 hr23 _ _ _ _ _ _)
        · refine vv_aload_n (pc := 2375) X (kf := 3) (i := 3) rfl 5 rfl dL_law_2375 ?_
          refine vv_iconst (pc := 2376) X dL_law_2376 ?_
          refine vv_laload (pc := 2377) X dL_law_2377 (fun v526 => ?_)
          refine vv_iload (pc := 2378) X 0 rfl dL_law_2378 ?_
          refine vv_i2l (pc := 2380) X dL_law_2380 ?_
          refine vv_lcmp (pc := 2381) X dL_law_2381 ?_
          refine vv_if_eq (pc := 2382) (tgt := 2387) X dL_law_2382 rfl ?_ ?_
          · exact vv_sub [2, 3, 4, 5, 6] (by rfl) (B_L_law_2387 X r23 hr23 _ _ _ _ _ _)
          · refine vv_iconst (pc := 2385) X dL_law_2385 ?_
            exact vv_iret0 X rfl rfl dL_law_2386
      · refine vv_iconst (pc := 2368) X dL_law_2368 ?_
        exact vv_iret0 X rfl rfl dL_law_2369
    refine vv_if (fun e38 => ?_) (fun e38 => ?_)
    · refine vv_tsw (pc := 40) (off := 2350) (tgt := 2390) X dL_law_40 hr (by omega) (by omega) (by rw [e38]; rfl) rfl ?_
      refine vv_aload_n (pc := 2390) X (kf := 1) (i := 1) rfl 1 rfl dL_law_2390 ?_
      refine vv_rcv (fun b529 t9 c9 fs9 e530 g9 k9 => ?_)
      cases List.mem_singleton.mp k9
      refine vv_callI (pc := 2391) (rest := []) (by rw [e530]; rfl) (fun r8 k8 e8 => zz_callV X (m_X1_report (hlM X) _ _ _ _ e8) g9 rfl rfl q2954 q2955 q2956 q132 q2957 nh_X1 rfl (by decide) (by decide) (Nat.le_of_ble_eq_true rfl) dL_law_2391) (fun v527 h528 => ?_)
      refine vv_aload_n (pc := 2394) X (kf := 2) (i := 2) rfl 2 rfl dL_law_2394 ?_
      refine vv_rcv (fun b533 t9 c9 fs9 e534 g9 k9 => ?_)
      cases List.mem_singleton.mp k9
      refine vv_callI (pc := 2395) (rest := [LI v527]) (by rw [e534]; rfl) (fun r8 k8 e8 => zz_callV X (m_X9_report (hlM X) _ _ _ _ e8) g9 rfl rfl q4055 q4056 q4057 q164 q4058 nh_X9 rfl (by decide) (by decide) (Nat.le_of_ble_eq_true rfl) dL_law_2395) (fun v531 h532 => ?_)
      refine vv_icmp_eq (pc := 2398) (tgt := 2553) X dL_law_2398 rfl ?_ ?_
      · exact B_L_law_2553 X r23 hr23 _ _ _ _ _ _
      · refine vv_iconst (pc := 2401) X dL_law_2401 ?_
        exact vv_iret0 X rfl rfl dL_law_2402
    refine vv_if (fun e39 => ?_) (fun e39 => ?_)
    · refine vv_tsw (pc := 40) (off := 2363) (tgt := 2403) X dL_law_40 hr (by omega) (by omega) (by rw [e39]; rfl) rfl ?_
      refine vv_aload_n (pc := 2403) X (kf := 1) (i := 1) rfl 1 rfl dL_law_2403 ?_
      refine vv_aload_n (pc := 2404) X (kf := 0) (i := 0) rfl 0 rfl dL_law_2404 ?_
      refine vv_iload (pc := 2405) X 4 rfl dL_law_2405 ?_
      refine vv_iconst (pc := 2407) X dL_law_2407 ?_
      refine vv_iadd (pc := 2408) X dL_law_2408 ?_
      refine vv_iaload (pc := 2409) X dL_law_2409 (fun v535 => ?_)
      refine vv_rcv (fun b538 t9 c9 fs9 e539 g9 k9 => ?_)
      cases List.mem_singleton.mp k9
      refine vv_callI (pc := 2410) (rest := []) (by rw [e539]; rfl) (fun r8 k8 e8 => zz_callV X (m_X1_reportByte (hlM X) _ _ _ _ _ e8) g9 rfl rfl q2980 q2981 q2982 q132 q2983 nh_X1 rfl (by decide) (by decide) (Nat.le_of_ble_eq_true rfl) dL_law_2410) (fun v536 h537 => ?_)
      refine vv_aload_n (pc := 2413) X (kf := 2) (i := 2) rfl 2 rfl dL_law_2413 ?_
      refine vv_aload_n (pc := 2414) X (kf := 0) (i := 0) rfl 0 rfl dL_law_2414 ?_
      refine vv_iload (pc := 2415) X 4 rfl dL_law_2415 ?_
      refine vv_iconst (pc := 2417) X dL_law_2417 ?_
      refine vv_iadd (pc := 2418) X dL_law_2418 ?_
      refine vv_iaload (pc := 2419) X dL_law_2419 (fun v540 => ?_)
      refine vv_rcv (fun b543 t9 c9 fs9 e544 g9 k9 => ?_)
      cases List.mem_singleton.mp k9
      refine vv_callI (pc := 2420) (rest := [LI v536]) (by rw [e544]; rfl) (fun r8 k8 e8 => zz_callV X (m_X9_reportByte (hlM X) _ _ _ _ _ e8) g9 rfl rfl q4067 q4068 q4069 q164 q4070 nh_X9 rfl (by decide) (by decide) (Nat.le_of_ble_eq_true rfl) dL_law_2420) (fun v541 h542 => ?_)
      refine vv_icmp_eq (pc := 2423) (tgt := 2553) X dL_law_2423 rfl ?_ ?_
      · exact B_L_law_2553 X r23 hr23 _ _ _ _ _ _
      · refine vv_iconst (pc := 2426) X dL_law_2426 ?_
        exact vv_iret0 X rfl rfl dL_law_2427
    refine vv_if (fun e40 => ?_) (fun e40 => ?_)
    · refine vv_tsw (pc := 40) (off := 2388) (tgt := 2428) X dL_law_40 hr (by omega) (by omega) (by rw [e40]; rfl) rfl ?_
      refine vv_aload_n (pc := 2428) X (kf := 1) (i := 1) rfl 1 rfl dL_law_2428 ?_
      refine vv_rcv (fun b547 t9 c9 fs9 e548 g9 k9 => ?_)
      cases List.mem_singleton.mp k9
      refine vv_callI (pc := 2429) (rest := []) (by rw [e548]; rfl) (fun r8 k8 e8 => zz_callV X (m_X1_undo (hlM X) _ _ _ _ e8) g9 rfl rfl q2986 q2987 q2988 q132 q2989 nh_X1 rfl (by decide) (by decide) (Nat.le_of_ble_eq_true rfl) dL_law_2429) (fun v545 h546 => ?_)
      refine vv_aload_n (pc := 2432) X (kf := 2) (i := 2) rfl 2 rfl dL_law_2432 ?_
      refine vv_rcv (fun b551 t9 c9 fs9 e552 g9 k9 => ?_)
      cases List.mem_singleton.mp k9
      refine vv_callI (pc := 2433) (rest := [LI v545]) (by rw [e552]; rfl) (fun r8 k8 e8 => zz_callV X (m_X9_undo (hlM X) _ _ _ _ e8) g9 rfl rfl q4071 q4072 q4073 q164 q4074 nh_X9 rfl (by decide) (by decide) (Nat.le_of_ble_eq_true rfl) dL_law_2433) (fun v549 h550 => ?_)
      refine vv_icmp_eq (pc := 2436) (tgt := 2553) X dL_law_2436 rfl ?_ ?_
      · exact B_L_law_2553 X r23 hr23 _ _ _ _ _ _
      · refine vv_iconst (pc := 2439) X dL_law_2439 ?_
        exact vv_iret0 X rfl rfl dL_law_2440
    refine vv_if (fun e41 => ?_) (fun e41 => ?_)
    · refine vv_tsw (pc := 40) (off := 2401) (tgt := 2441) X dL_law_40 hr (by omega) (by omega) (by rw [e41]; rfl) rfl ?_
      refine vv_aload_n (pc := 2441) X (kf := 1) (i := 1) rfl 1 rfl dL_law_2441 ?_
      refine vv_aload_n (pc := 2442) X (kf := 0) (i := 0) rfl 0 rfl dL_law_2442 ?_
      refine vv_iload (pc := 2443) X 4 rfl dL_law_2443 ?_
      refine vv_iconst (pc := 2445) X dL_law_2445 ?_
      refine vv_iadd (pc := 2446) X dL_law_2446 ?_
      refine vv_iaload (pc := 2447) X dL_law_2447 (fun v553 => ?_)
      refine vv_aload_n (pc := 2448) X (kf := 3) (i := 3) rfl 3 rfl dL_law_2448 ?_
      refine vv_callI (pc := 2449) (rest := []) (by rfl) (fun r8 k8 e8 => zz_callSX X (m_X0_save (hlM X) _ _ _ _ _ _ e8) q3421 q3422 q131 q3423 nh_X0 rfl (by decide) (by decide) (Nat.le_of_ble_eq_true rfl) dL_law_2449) (fun v554 h555 => ?_)
      refine vv_istore (pc := 2452) (lv' := [(5, LI v554), (0, LR x0), (1, LR x1), (2, LR x2), (3, LR x3), (4, LI x4)]) X (by decide) rfl dL_law_2452 ?_
      refine vv_aload_n (pc := 2454) X (kf := 2) (i := 2) rfl 3 rfl dL_law_2454 ?_
      refine vv_aload_n (pc := 2455) X (kf := 0) (i := 0) rfl 1 rfl dL_law_2455 ?_
      refine vv_iload (pc := 2456) X 5 rfl dL_law_2456 ?_
      refine vv_iconst (pc := 2458) X dL_law_2458 ?_
      refine vv_iadd (pc := 2459) X dL_law_2459 ?_
      refine vv_iaload (pc := 2460) X dL_law_2460 (fun v556 => ?_)
      refine vv_rcv (fun b559 t9 c9 fs9 e560 g9 k9 => ?_)
      cases List.mem_singleton.mp k9
      refine vv_callI (pc := 2461) (rest := []) (by rw [e560]; rfl) (fun r8 k8 e8 => zz_callV X (m_X9_save (hlM X) _ _ _ _ _ e8) g9 rfl rfl q4075 q4076 q4077 q164 q4078 nh_X9 rfl (by decide) (by decide) (Nat.le_of_ble_eq_true rfl) dL_law_2461) (fun v557 h558 => ?_)
      refine vv_istore (pc := 2464) (lv' := [(6, LI v557), (5, LI v554), (0, LR x0), (1, LR x1), (2, LR x2), (3, LR x3), (4, LI x4)]) X (by decide) rfl dL_law_2464 ?_
      refine vv_aload_n (pc := 2466) X (kf := 2) (i := 2) rfl 4 rfl dL_law_2466 ?_
      refine vv_rcv (fun b563 t9 c9 fs9 e564 g9 k9 => ?_)
      cases List.mem_singleton.mp k9
      refine vv_callI (pc := 2467) (rest := []) (by rw [e564]; rfl) (fun r8 k8 e8 => zz_callV X (m_X9_thrown (hlM X) _ _ _ _ e8) g9 rfl rfl q3548 q3549 q3550 q164 q3551 nh_X9 rfl (by decide) (by decide) (Nat.le_of_ble_eq_true rfl) dL_law_2467) (fun v561 h562 => ?_)
      refine vv_iload (pc := 2470) X 1 rfl dL_law_2470 ?_
      refine vv_icmp_eq (pc := 2472) (tgt := 2477) X dL_law_2472 rfl ?_ ?_
      · refine vv_iload (pc := 2477) X 1 rfl dL_law_2477 ?_
        refine vv_if_ne (pc := 2479) (tgt := 2494) X dL_law_2479 rfl ?_ ?_
        · exact vv_sub [2, 3, 4, 5, 6] (by rfl) (B_L_law_2494 X r23 hr23 _ _ _ _ _ _)
        · refine vv_aload_n (pc := 2482) X (kf := 3) (i := 3) rfl 5 rfl dL_law_2482 ?_
          refine vv_iconst (pc := 2483) X dL_law_2483 ?_
          refine vv_laload (pc := 2484) X dL_law_2484 (fun v565 => ?_)
          refine vv_iload (pc := 2485) X 0 rfl dL_law_2485 ?_
          refine vv_i2l (pc := 2487) X dL_law_2487 ?_
          refine vv_lcmp (pc := 2488) X dL_law_2488 ?_
          refine vv_if_eq (pc := 2489) (tgt := 2494) X dL_law_2489 rfl ?_ ?_
          · exact vv_sub [2, 3, 4, 5, 6] (by rfl) (B_L_law_2494 X r23 hr23 _ _ _ _ _ _)
          · refine vv_iconst (pc := 2492) X dL_law_2492 ?_
            exact vv_iret0 X rfl rfl dL_law_2493
      · refine vv_iconst (pc := 2475) X dL_law_2475 ?_
        exact vv_iret0 X rfl rfl dL_law_2476
    refine vv_if (fun e42 => ?_) (fun e42 => ?_)
    · refine vv_tsw (pc := 40) (off := 2457) (tgt := 2497) X dL_law_40 hr (by omega) (by omega) (by rw [e42]; rfl) rfl ?_
      refine vv_aload_n (pc := 2497) X (kf := 1) (i := 1) rfl 1 rfl dL_law_2497 ?_
      refine vv_aload_n (pc := 2498) X (kf := 0) (i := 0) rfl 0 rfl dL_law_2498 ?_
      refine vv_iload (pc := 2499) X 4 rfl dL_law_2499 ?_
      refine vv_iconst (pc := 2501) X dL_law_2501 ?_
      refine vv_iadd (pc := 2502) X dL_law_2502 ?_
      refine vv_iaload (pc := 2503) X dL_law_2503 (fun v566 => ?_)
      refine vv_aload_n (pc := 2504) X (kf := 3) (i := 3) rfl 3 rfl dL_law_2504 ?_
      refine vv_callI (pc := 2505) (rest := []) (by rfl) (fun r8 k8 e8 => zz_callSX X (m_X0_restore (hlM X) _ _ _ _ _ _ e8) q3431 q3432 q131 q3433 nh_X0 rfl (by decide) (by decide) (Nat.le_of_ble_eq_true rfl) dL_law_2505) (fun v567 h568 => ?_)
      refine vv_istore (pc := 2508) (lv' := [(5, LI v567), (0, LR x0), (1, LR x1), (2, LR x2), (3, LR x3), (4, LI x4)]) X (by decide) rfl dL_law_2508 ?_
      refine vv_aload_n (pc := 2510) X (kf := 2) (i := 2) rfl 3 rfl dL_law_2510 ?_
      refine vv_aload_n (pc := 2511) X (kf := 0) (i := 0) rfl 1 rfl dL_law_2511 ?_
      refine vv_iload (pc := 2512) X 5 rfl dL_law_2512 ?_
      refine vv_iconst (pc := 2514) X dL_law_2514 ?_
      refine vv_iadd (pc := 2515) X dL_law_2515 ?_
      refine vv_iaload (pc := 2516) X dL_law_2516 (fun v569 => ?_)
      refine vv_rcv (fun b572 t9 c9 fs9 e573 g9 k9 => ?_)
      cases List.mem_singleton.mp k9
      refine vv_callI (pc := 2517) (rest := []) (by rw [e573]; rfl) (fun r8 k8 e8 => zz_callV X (m_X9_restore (hlM X) _ _ _ _ _ e8) g9 rfl rfl q4083 q4084 q4085 q164 q4086 nh_X9 rfl (by decide) (by decide) (Nat.le_of_ble_eq_true rfl) dL_law_2517) (fun v570 h571 => ?_)
      refine vv_istore (pc := 2520) (lv' := [(6, LI v570), (5, LI v567), (0, LR x0), (1, LR x1), (2, LR x2), (3, LR x3), (4, LI x4)]) X (by decide) rfl dL_law_2520 ?_
      refine vv_aload_n (pc := 2522) X (kf := 2) (i := 2) rfl 4 rfl dL_law_2522 ?_
      refine vv_rcv (fun b576 t9 c9 fs9 e577 g9 k9 => ?_)
      cases List.mem_singleton.mp k9
      refine vv_callI (pc := 2523) (rest := []) (by rw [e577]; rfl) (fun r8 k8 e8 => zz_callV X (m_X9_thrown (hlM X) _ _ _ _ e8) g9 rfl rfl q3548 q3549 q3550 q164 q3551 nh_X9 rfl (by decide) (by decide) (Nat.le_of_ble_eq_true rfl) dL_law_2523) (fun v574 h575 => ?_)
      refine vv_iload (pc := 2526) X 1 rfl dL_law_2526 ?_
      refine vv_icmp_eq (pc := 2528) (tgt := 2533) X dL_law_2528 rfl ?_ ?_
      · refine vv_iload (pc := 2533) X 1 rfl dL_law_2533 ?_
        refine vv_if_ne (pc := 2535) (tgt := 2550) X dL_law_2535 rfl ?_ ?_
        · exact vv_sub [2, 3, 4, 5, 6] (by rfl) (B_L_law_2550 X r23 hr23 _ _ _ _ _ _)
        · refine vv_aload_n (pc := 2538) X (kf := 3) (i := 3) rfl 5 rfl dL_law_2538 ?_
          refine vv_iconst (pc := 2539) X dL_law_2539 ?_
          refine vv_laload (pc := 2540) X dL_law_2540 (fun v578 => ?_)
          refine vv_iload (pc := 2541) X 0 rfl dL_law_2541 ?_
          refine vv_i2l (pc := 2543) X dL_law_2543 ?_
          refine vv_lcmp (pc := 2544) X dL_law_2544 ?_
          refine vv_if_eq (pc := 2545) (tgt := 2550) X dL_law_2545 rfl ?_ ?_
          · exact vv_sub [2, 3, 4, 5, 6] (by rfl) (B_L_law_2550 X r23 hr23 _ _ _ _ _ _)
          · refine vv_iconst (pc := 2548) X dL_law_2548 ?_
            exact vv_iret0 X rfl rfl dL_law_2549
      · refine vv_iconst (pc := 2531) X dL_law_2531 ?_
        exact vv_iret0 X rfl rfl dL_law_2532
    refine vv_tswD (pc := 40) (tgt := 2553) X dL_law_40 hr (by omega) rfl ?_
    exact B_L_law_2553 X r23 hr23 _ _ _ _ _ _
theorem B_L_law_23 {M : hp_M} {G : va_G} {h0 : HP} (X : hp_X M G h0 "RenamedWordsLaw" "law" cL_law 9 (some .boolean) [] 8192 104096) : ∀ (x0 : Option Nat) (x1 : Option Nat) (x2 : Option Nat) (x3 : Option Nat) (x4 : Int) (h : HP), vv M G h0 9 (hp_End M G h0) jI h 23 [(0, LR x0), (1, LR x1), (2, LR x2), (3, LR x3), (4, LI x4)] [] (b_L_law_23 x0 x1 x2 x3 x4 h) := by
  unfold b_L_law_23
  generalize FU = n
  induction n with
  | zero => intro x0 x1 x2 x3 x4 h; exact vv_none
  | succ n ih => exact C_L_law_23 X _ ih
